/-! THE LAW: its cases -/
set_option maxRecDepth 100000
def mdL : bMD := (⟨"RumourBedsLaw", "law", "([I)Z"⟩, code, 4, some .boolean, [], 14, 530)
theorem sc_in {i d Ln : Nat} {y : Int32} (hy : nI d = y) (hi : i + 5 < Ln) (hL : Ln ≤ 384) (hd : d ≤ 5) : vp_in (nI i + y) Ln := by
  subst hy
  have e : nI i + nI d = nI (i + d) := (Int32.ofNat_add i d).symm
  rw [e]
  exact vp_in_nI (by omega) (by omega)
theorem sc_cl {i d : Nat} {y : Int32} (hy : nI d = y) (hi : i + d < 1000) : (nI i + y).toNatClampNeg = i + d := by
  subst hy
  have e : nI i + nI d = nI (i + d) := (Int32.ofNat_add i d).symm
  rw [e]
  exact nI_clamp (by omega)
set_option maxHeartbeats 4000000 in
theorem lc0 {g : bGh} {A : tA} (hA : tO A) {n0 u0 : Nat} {Q : Outcome → bWl → Prop} {xa b Ln i : Nat} {xs : Nat → Int32} {w w1 : bWl} {M M' : tM} {r : Int32} (hX : scrAt g b Ln xs) (hi : i + 5 < Ln) (hL : Ln ≤ 384) (hxa : hC w xa = some 0) (h1 : fX0_house w xa (xs (i + 1)) (xs (i + 2)) (xs (i + 3)) = some (r, w1)) (h2 : tW A M w1 = w1) (h3 : fX3_house M (xs (i + 1)) (xs (i + 2)) (xs (i + 3)) = some (r, M')) (kk : bG (g, mdL, n0, u0, Q) (tW A M' w1) 1426 [some (.ref b), some (.ref xa), some (.ref A.1), some (.int (nI i))] []) : bG (g, mdL, n0, u0, Q) w 212 [some (.ref b), some (.ref xa), some (.ref A.1), some (.int (nI i))] [] := by
  refine g_aload_n (pc' := 213) dL_law_212 rfl rfl rfl ?_
  refine g_aload_n (pc' := 214) dL_law_213 rfl rfl rfl ?_
  refine g_iload_n (pc' := 215) dL_law_214 rfl rfl rfl ?_
  refine g_iconst (pc' := 216) (v := 1) dL_law_215 rfl (by decide) ?_
  refine g_iadd (pc' := 217) dL_law_216 rfl ?_
  refine g_sld (pc' := 218) (v := xs (i + 1)) hX (sc_in (d := 1) rfl hi hL (by decide)) dL_law_217 rfl (congrArg xs (sc_cl (d := 1) rfl (by omega))) ?_
  refine g_aload_n (pc' := 219) dL_law_218 rfl rfl rfl ?_
  refine g_iload_n (pc' := 220) dL_law_219 rfl rfl rfl ?_
  refine g_iconst (pc' := 221) (v := 2) dL_law_220 rfl (by decide) ?_
  refine g_iadd (pc' := 222) dL_law_221 rfl ?_
  refine g_sld (pc' := 223) (v := xs (i + 2)) hX (sc_in (d := 2) rfl hi hL (by decide)) dL_law_222 rfl (congrArg xs (sc_cl (d := 2) rfl (by omega))) ?_
  refine g_aload_n (pc' := 224) dL_law_223 rfl rfl rfl ?_
  refine g_iload_n (pc' := 225) dL_law_224 rfl rfl rfl ?_
  refine g_iconst (pc' := 226) (v := 3) dL_law_225 rfl (by decide) ?_
  refine g_iadd (pc' := 227) dL_law_226 rfl ?_
  refine g_sld (pc' := 228) (v := xs (i + 3)) hX (sc_in (d := 3) rfl hi hL (by decide)) dL_law_227 rfl (congrArg xs (sc_cl (d := 3) rfl (by omega))) ?_
  refine g_callV (pc' := 231) (mx := mdX0_house) (as := [.int (xs (i + 1)), .int (xs (i + 2)), .int (xs (i + 3))]) (wX0_house g _ xa (xs (i + 1)) (xs (i + 2)) (xs (i + 3)) h1) oX0_house ⟨Nat.le_of_ble_eq_true rfl, Nat.le_of_ble_eq_true rfl⟩ dL_law_228 rfl (ci := 0) rfl hxa ⟨by decide +kernel, by decide +kernel⟩ oX0_house.2.2.2 rfl q200 q201 q202 q202 q201 (Nat.le_of_ble_eq_true rfl) (Nat.le_of_ble_eq_true rfl) (g_rI ?_) g_nt rfl
  rw [← h2]
  refine g_aload_n (pc' := 232) dL_law_231 rfl rfl rfl ?_
  refine g_aload_n (pc' := 233) dL_law_232 rfl rfl rfl ?_
  refine g_iload_n (pc' := 234) dL_law_233 rfl rfl rfl ?_
  refine g_iconst (pc' := 235) (v := 1) dL_law_234 rfl (by decide) ?_
  refine g_iadd (pc' := 236) dL_law_235 rfl ?_
  refine g_sld (pc' := 237) (v := xs (i + 1)) hX (sc_in (d := 1) rfl hi hL (by decide)) dL_law_236 rfl (congrArg xs (sc_cl (d := 1) rfl (by omega))) ?_
  refine g_aload_n (pc' := 238) dL_law_237 rfl rfl rfl ?_
  refine g_iload_n (pc' := 239) dL_law_238 rfl rfl rfl ?_
  refine g_iconst (pc' := 240) (v := 2) dL_law_239 rfl (by decide) ?_
  refine g_iadd (pc' := 241) dL_law_240 rfl ?_
  refine g_sld (pc' := 242) (v := xs (i + 2)) hX (sc_in (d := 2) rfl hi hL (by decide)) dL_law_241 rfl (congrArg xs (sc_cl (d := 2) rfl (by omega))) ?_
  refine g_aload_n (pc' := 243) dL_law_242 rfl rfl rfl ?_
  refine g_iload_n (pc' := 244) dL_law_243 rfl rfl rfl ?_
  refine g_iconst (pc' := 245) (v := 3) dL_law_244 rfl (by decide) ?_
  refine g_iadd (pc' := 246) dL_law_245 rfl ?_
  refine g_sld (pc' := 247) (v := xs (i + 3)) hX (sc_in (d := 3) rfl hi hL (by decide)) dL_law_246 rfl (congrArg xs (sc_cl (d := 3) rfl (by omega))) ?_
  refine g_callV (pc' := 250) (mx := mdX3_house) (as := [.int (xs (i + 1)), .int (xs (i + 2)), .int (xs (i + 3))]) (wX3_house g hA w1 M (xs (i + 1)) (xs (i + 2)) (xs (i + 3)) h3) oX3_house ⟨Nat.le_of_ble_eq_true rfl, Nat.le_of_ble_eq_true rfl⟩ dL_law_247 rfl (ci := 3) rfl tC ⟨by decide +kernel, by decide +kernel⟩ oX3_house.2.2.2 rfl q1097 q1098 q1099 q1099 q1098 (Nat.le_of_ble_eq_true rfl) (Nat.le_of_ble_eq_true rfl) (g_rI ?_) g_nt rfl
  refine g_icmp_eq (tgt := 1426) (pc' := 253) dL_law_250 (by decide) rfl (fun _ => kk) (fun h => absurd rfl h)
set_option maxHeartbeats 4000000 in
theorem lc1 {g : bGh} {A : tA} (hA : tO A) {n0 u0 : Nat} {Q : Outcome → bWl → Prop} {xa b Ln i : Nat} {xs : Nat → Int32} {w w1 : bWl} {M M' : tM} {r : Int32} (hX : scrAt g b Ln xs) (hi : i + 5 < Ln) (hL : Ln ≤ 384) (hxa : hC w xa = some 0) (h1 : fX0_houseOf w xa (xs (i + 1)) (xs (i + 2)) = some (r, w1)) (h2 : tW A M w1 = w1) (h3 : fX3_houseOf M (xs (i + 1)) (xs (i + 2)) = some (r, M')) (kk : bG (g, mdL, n0, u0, Q) (tW A M' w1) 1426 [some (.ref b), some (.ref xa), some (.ref A.1), some (.int (nI i))] []) : bG (g, mdL, n0, u0, Q) w 255 [some (.ref b), some (.ref xa), some (.ref A.1), some (.int (nI i))] [] := by
  refine g_aload_n (pc' := 256) dL_law_255 rfl rfl rfl ?_
  refine g_aload_n (pc' := 257) dL_law_256 rfl rfl rfl ?_
  refine g_iload_n (pc' := 258) dL_law_257 rfl rfl rfl ?_
  refine g_iconst (pc' := 259) (v := 1) dL_law_258 rfl (by decide) ?_
  refine g_iadd (pc' := 260) dL_law_259 rfl ?_
  refine g_sld (pc' := 261) (v := xs (i + 1)) hX (sc_in (d := 1) rfl hi hL (by decide)) dL_law_260 rfl (congrArg xs (sc_cl (d := 1) rfl (by omega))) ?_
  refine g_aload_n (pc' := 262) dL_law_261 rfl rfl rfl ?_
  refine g_iload_n (pc' := 263) dL_law_262 rfl rfl rfl ?_
  refine g_iconst (pc' := 264) (v := 2) dL_law_263 rfl (by decide) ?_
  refine g_iadd (pc' := 265) dL_law_264 rfl ?_
  refine g_sld (pc' := 266) (v := xs (i + 2)) hX (sc_in (d := 2) rfl hi hL (by decide)) dL_law_265 rfl (congrArg xs (sc_cl (d := 2) rfl (by omega))) ?_
  refine g_callV (pc' := 269) (mx := mdX0_houseOf) (as := [.int (xs (i + 1)), .int (xs (i + 2))]) (wX0_houseOf g _ xa (xs (i + 1)) (xs (i + 2)) h1) oX0_houseOf ⟨Nat.le_of_ble_eq_true rfl, Nat.le_of_ble_eq_true rfl⟩ dL_law_266 rfl (ci := 0) rfl hxa ⟨by decide +kernel, by decide +kernel⟩ oX0_houseOf.2.2.2 rfl q298 q299 q300 q300 q299 (Nat.le_of_ble_eq_true rfl) (Nat.le_of_ble_eq_true rfl) (g_rI ?_) g_nt rfl
  rw [← h2]
  refine g_aload_n (pc' := 270) dL_law_269 rfl rfl rfl ?_
  refine g_aload_n (pc' := 271) dL_law_270 rfl rfl rfl ?_
  refine g_iload_n (pc' := 272) dL_law_271 rfl rfl rfl ?_
  refine g_iconst (pc' := 273) (v := 1) dL_law_272 rfl (by decide) ?_
  refine g_iadd (pc' := 274) dL_law_273 rfl ?_
  refine g_sld (pc' := 275) (v := xs (i + 1)) hX (sc_in (d := 1) rfl hi hL (by decide)) dL_law_274 rfl (congrArg xs (sc_cl (d := 1) rfl (by omega))) ?_
  refine g_aload_n (pc' := 276) dL_law_275 rfl rfl rfl ?_
  refine g_iload_n (pc' := 277) dL_law_276 rfl rfl rfl ?_
  refine g_iconst (pc' := 278) (v := 2) dL_law_277 rfl (by decide) ?_
  refine g_iadd (pc' := 279) dL_law_278 rfl ?_
  refine g_sld (pc' := 280) (v := xs (i + 2)) hX (sc_in (d := 2) rfl hi hL (by decide)) dL_law_279 rfl (congrArg xs (sc_cl (d := 2) rfl (by omega))) ?_
  refine g_callV (pc' := 283) (mx := mdX3_houseOf) (as := [.int (xs (i + 1)), .int (xs (i + 2))]) (wX3_houseOf g hA w1 M (xs (i + 1)) (xs (i + 2)) h3) oX3_houseOf ⟨Nat.le_of_ble_eq_true rfl, Nat.le_of_ble_eq_true rfl⟩ dL_law_280 rfl (ci := 3) rfl tC ⟨by decide +kernel, by decide +kernel⟩ oX3_houseOf.2.2.2 rfl q1121 q1122 q1123 q1123 q1122 (Nat.le_of_ble_eq_true rfl) (Nat.le_of_ble_eq_true rfl) (g_rI ?_) g_nt rfl
  refine g_icmp_eq (tgt := 1426) (pc' := 286) dL_law_283 (by decide) rfl (fun _ => kk) (fun h => absurd rfl h)
set_option maxHeartbeats 4000000 in
theorem lc2 {g : bGh} {A : tA} (hA : tO A) {n0 u0 : Nat} {Q : Outcome → bWl → Prop} {xa b Ln i : Nat} {xs : Nat → Int32} {w w1 : bWl} {M M' : tM} {r : Int32} (hX : scrAt g b Ln xs) (hi : i + 5 < Ln) (hL : Ln ≤ 384) (hxa : hC w xa = some 0) (h1 : fX0_rumour w xa (xs (i + 1)) (xs (i + 2)) = some (r, w1)) (h2 : tW A M w1 = w1) (h3 : fX3_rumour M (xs (i + 1)) (xs (i + 2)) = some (r, M')) (kk : bG (g, mdL, n0, u0, Q) (tW A M' w1) 1426 [some (.ref b), some (.ref xa), some (.ref A.1), some (.int (nI i))] []) : bG (g, mdL, n0, u0, Q) w 288 [some (.ref b), some (.ref xa), some (.ref A.1), some (.int (nI i))] [] := by
  refine g_aload_n (pc' := 289) dL_law_288 rfl rfl rfl ?_
  refine g_aload_n (pc' := 290) dL_law_289 rfl rfl rfl ?_
  refine g_iload_n (pc' := 291) dL_law_290 rfl rfl rfl ?_
  refine g_iconst (pc' := 292) (v := 1) dL_law_291 rfl (by decide) ?_
  refine g_iadd (pc' := 293) dL_law_292 rfl ?_
  refine g_sld (pc' := 294) (v := xs (i + 1)) hX (sc_in (d := 1) rfl hi hL (by decide)) dL_law_293 rfl (congrArg xs (sc_cl (d := 1) rfl (by omega))) ?_
  refine g_aload_n (pc' := 295) dL_law_294 rfl rfl rfl ?_
  refine g_iload_n (pc' := 296) dL_law_295 rfl rfl rfl ?_
  refine g_iconst (pc' := 297) (v := 2) dL_law_296 rfl (by decide) ?_
  refine g_iadd (pc' := 298) dL_law_297 rfl ?_
  refine g_sld (pc' := 299) (v := xs (i + 2)) hX (sc_in (d := 2) rfl hi hL (by decide)) dL_law_298 rfl (congrArg xs (sc_cl (d := 2) rfl (by omega))) ?_
  refine g_callV (pc' := 302) (mx := mdX0_rumour) (as := [.int (xs (i + 1)), .int (xs (i + 2))]) (wX0_rumour g _ xa (xs (i + 1)) (xs (i + 2)) h1) oX0_rumour ⟨Nat.le_of_ble_eq_true rfl, Nat.le_of_ble_eq_true rfl⟩ dL_law_299 rfl (ci := 0) rfl hxa ⟨by decide +kernel, by decide +kernel⟩ oX0_rumour.2.2.2 rfl q352 q353 q354 q354 q353 (Nat.le_of_ble_eq_true rfl) (Nat.le_of_ble_eq_true rfl) (g_rI ?_) g_nt rfl
  rw [← h2]
  refine g_aload_n (pc' := 303) dL_law_302 rfl rfl rfl ?_
  refine g_aload_n (pc' := 304) dL_law_303 rfl rfl rfl ?_
  refine g_iload_n (pc' := 305) dL_law_304 rfl rfl rfl ?_
  refine g_iconst (pc' := 306) (v := 1) dL_law_305 rfl (by decide) ?_
  refine g_iadd (pc' := 307) dL_law_306 rfl ?_
  refine g_sld (pc' := 308) (v := xs (i + 1)) hX (sc_in (d := 1) rfl hi hL (by decide)) dL_law_307 rfl (congrArg xs (sc_cl (d := 1) rfl (by omega))) ?_
  refine g_aload_n (pc' := 309) dL_law_308 rfl rfl rfl ?_
  refine g_iload_n (pc' := 310) dL_law_309 rfl rfl rfl ?_
  refine g_iconst (pc' := 311) (v := 2) dL_law_310 rfl (by decide) ?_
  refine g_iadd (pc' := 312) dL_law_311 rfl ?_
  refine g_sld (pc' := 313) (v := xs (i + 2)) hX (sc_in (d := 2) rfl hi hL (by decide)) dL_law_312 rfl (congrArg xs (sc_cl (d := 2) rfl (by omega))) ?_
  refine g_callV (pc' := 316) (mx := mdX3_rumour) (as := [.int (xs (i + 1)), .int (xs (i + 2))]) (wX3_rumour g hA w1 M (xs (i + 1)) (xs (i + 2)) h3) oX3_rumour ⟨Nat.le_of_ble_eq_true rfl, Nat.le_of_ble_eq_true rfl⟩ dL_law_313 rfl (ci := 3) rfl tC ⟨by decide +kernel, by decide +kernel⟩ oX3_rumour.2.2.2 rfl q1153 q1154 q1155 q1155 q1154 (Nat.le_of_ble_eq_true rfl) (Nat.le_of_ble_eq_true rfl) (g_rI ?_) g_nt rfl
  refine g_icmp_eq (tgt := 1426) (pc' := 319) dL_law_316 (by decide) rfl (fun _ => kk) (fun h => absurd rfl h)
set_option maxHeartbeats 4000000 in
theorem lc3 {g : bGh} {A : tA} (hA : tO A) {n0 u0 : Nat} {Q : Outcome → bWl → Prop} {xa b Ln i : Nat} {xs : Nat → Int32} {w w1 : bWl} {M M' : tM} {r : Int32} (hX : scrAt g b Ln xs) (hi : i + 5 < Ln) (hL : Ln ≤ 384) (hxa : hC w xa = some 0) (h1 : fX0_of w xa (xs (i + 1)) (xs (i + 2)) = some (r, w1)) (h2 : tW A M w1 = w1) (h3 : fX3_of M (xs (i + 1)) (xs (i + 2)) = some (r, M')) (kk : bG (g, mdL, n0, u0, Q) (tW A M' w1) 1426 [some (.ref b), some (.ref xa), some (.ref A.1), some (.int (nI i))] []) : bG (g, mdL, n0, u0, Q) w 321 [some (.ref b), some (.ref xa), some (.ref A.1), some (.int (nI i))] [] := by
  refine g_aload_n (pc' := 322) dL_law_321 rfl rfl rfl ?_
  refine g_aload_n (pc' := 323) dL_law_322 rfl rfl rfl ?_
  refine g_iload_n (pc' := 324) dL_law_323 rfl rfl rfl ?_
  refine g_iconst (pc' := 325) (v := 1) dL_law_324 rfl (by decide) ?_
  refine g_iadd (pc' := 326) dL_law_325 rfl ?_
  refine g_sld (pc' := 327) (v := xs (i + 1)) hX (sc_in (d := 1) rfl hi hL (by decide)) dL_law_326 rfl (congrArg xs (sc_cl (d := 1) rfl (by omega))) ?_
  refine g_aload_n (pc' := 328) dL_law_327 rfl rfl rfl ?_
  refine g_iload_n (pc' := 329) dL_law_328 rfl rfl rfl ?_
  refine g_iconst (pc' := 330) (v := 2) dL_law_329 rfl (by decide) ?_
  refine g_iadd (pc' := 331) dL_law_330 rfl ?_
  refine g_sld (pc' := 332) (v := xs (i + 2)) hX (sc_in (d := 2) rfl hi hL (by decide)) dL_law_331 rfl (congrArg xs (sc_cl (d := 2) rfl (by omega))) ?_
  refine g_callV (pc' := 335) (mx := mdX0_of) (as := [.int (xs (i + 1)), .int (xs (i + 2))]) (wX0_of g _ xa (xs (i + 1)) (xs (i + 2)) h1) oX0_of ⟨Nat.le_of_ble_eq_true rfl, Nat.le_of_ble_eq_true rfl⟩ dL_law_332 rfl (ci := 0) rfl hxa ⟨by decide +kernel, by decide +kernel⟩ oX0_of.2.2.2 rfl q424 q425 q426 q426 q425 (Nat.le_of_ble_eq_true rfl) (Nat.le_of_ble_eq_true rfl) (g_rI ?_) g_nt rfl
  rw [← h2]
  refine g_aload_n (pc' := 336) dL_law_335 rfl rfl rfl ?_
  refine g_aload_n (pc' := 337) dL_law_336 rfl rfl rfl ?_
  refine g_iload_n (pc' := 338) dL_law_337 rfl rfl rfl ?_
  refine g_iconst (pc' := 339) (v := 1) dL_law_338 rfl (by decide) ?_
  refine g_iadd (pc' := 340) dL_law_339 rfl ?_
  refine g_sld (pc' := 341) (v := xs (i + 1)) hX (sc_in (d := 1) rfl hi hL (by decide)) dL_law_340 rfl (congrArg xs (sc_cl (d := 1) rfl (by omega))) ?_
  refine g_aload_n (pc' := 342) dL_law_341 rfl rfl rfl ?_
  refine g_iload_n (pc' := 343) dL_law_342 rfl rfl rfl ?_
  refine g_iconst (pc' := 344) (v := 2) dL_law_343 rfl (by decide) ?_
  refine g_iadd (pc' := 345) dL_law_344 rfl ?_
  refine g_sld (pc' := 346) (v := xs (i + 2)) hX (sc_in (d := 2) rfl hi hL (by decide)) dL_law_345 rfl (congrArg xs (sc_cl (d := 2) rfl (by omega))) ?_
  refine g_callV (pc' := 349) (mx := mdX3_of) (as := [.int (xs (i + 1)), .int (xs (i + 2))]) (wX3_of g hA w1 M (xs (i + 1)) (xs (i + 2)) h3) oX3_of ⟨Nat.le_of_ble_eq_true rfl, Nat.le_of_ble_eq_true rfl⟩ dL_law_346 rfl (ci := 3) rfl tC ⟨by decide +kernel, by decide +kernel⟩ oX3_of.2.2.2 rfl q1169 q1170 q1171 q1171 q1170 (Nat.le_of_ble_eq_true rfl) (Nat.le_of_ble_eq_true rfl) (g_rI ?_) g_nt rfl
  refine g_icmp_eq (tgt := 1426) (pc' := 352) dL_law_349 (by decide) rfl (fun _ => kk) (fun h => absurd rfl h)
set_option maxHeartbeats 4000000 in
theorem lc4 {g : bGh} {A : tA} (hA : tO A) {n0 u0 : Nat} {Q : Outcome → bWl → Prop} {xa b Ln i : Nat} {xs : Nat → Int32} {w w1 : bWl} {M M' : tM} {r : Int32} (hX : scrAt g b Ln xs) (hi : i + 5 < Ln) (hL : Ln ≤ 384) (hxa : hC w xa = some 0) (h1 : fX0_set w xa (xs (i + 1)) (xs (i + 2)) (xs (i + 3)) = some (r, w1)) (h2 : tW A M w1 = w1) (h3 : fX3_set M (xs (i + 1)) (xs (i + 2)) (xs (i + 3)) = some (r, M')) (kk : bG (g, mdL, n0, u0, Q) (tW A M' w1) 1426 [some (.ref b), some (.ref xa), some (.ref A.1), some (.int (nI i))] []) : bG (g, mdL, n0, u0, Q) w 354 [some (.ref b), some (.ref xa), some (.ref A.1), some (.int (nI i))] [] := by
  refine g_aload_n (pc' := 355) dL_law_354 rfl rfl rfl ?_
  refine g_aload_n (pc' := 356) dL_law_355 rfl rfl rfl ?_
  refine g_iload_n (pc' := 357) dL_law_356 rfl rfl rfl ?_
  refine g_iconst (pc' := 358) (v := 1) dL_law_357 rfl (by decide) ?_
  refine g_iadd (pc' := 359) dL_law_358 rfl ?_
  refine g_sld (pc' := 360) (v := xs (i + 1)) hX (sc_in (d := 1) rfl hi hL (by decide)) dL_law_359 rfl (congrArg xs (sc_cl (d := 1) rfl (by omega))) ?_
  refine g_aload_n (pc' := 361) dL_law_360 rfl rfl rfl ?_
  refine g_iload_n (pc' := 362) dL_law_361 rfl rfl rfl ?_
  refine g_iconst (pc' := 363) (v := 2) dL_law_362 rfl (by decide) ?_
  refine g_iadd (pc' := 364) dL_law_363 rfl ?_
  refine g_sld (pc' := 365) (v := xs (i + 2)) hX (sc_in (d := 2) rfl hi hL (by decide)) dL_law_364 rfl (congrArg xs (sc_cl (d := 2) rfl (by omega))) ?_
  refine g_aload_n (pc' := 366) dL_law_365 rfl rfl rfl ?_
  refine g_iload_n (pc' := 367) dL_law_366 rfl rfl rfl ?_
  refine g_iconst (pc' := 368) (v := 3) dL_law_367 rfl (by decide) ?_
  refine g_iadd (pc' := 369) dL_law_368 rfl ?_
  refine g_sld (pc' := 370) (v := xs (i + 3)) hX (sc_in (d := 3) rfl hi hL (by decide)) dL_law_369 rfl (congrArg xs (sc_cl (d := 3) rfl (by omega))) ?_
  refine g_callV (pc' := 373) (mx := mdX0_set) (as := [.int (xs (i + 1)), .int (xs (i + 2)), .int (xs (i + 3))]) (wX0_set g _ xa (xs (i + 1)) (xs (i + 2)) (xs (i + 3)) h1) oX0_set ⟨Nat.le_of_ble_eq_true rfl, Nat.le_of_ble_eq_true rfl⟩ dL_law_370 rfl (ci := 0) rfl hxa ⟨by decide +kernel, by decide +kernel⟩ oX0_set.2.2.2 rfl q498 q499 q500 q500 q499 (Nat.le_of_ble_eq_true rfl) (Nat.le_of_ble_eq_true rfl) (g_rI ?_) g_nt rfl
  rw [← h2]
  refine g_aload_n (pc' := 374) dL_law_373 rfl rfl rfl ?_
  refine g_aload_n (pc' := 375) dL_law_374 rfl rfl rfl ?_
  refine g_iload_n (pc' := 376) dL_law_375 rfl rfl rfl ?_
  refine g_iconst (pc' := 377) (v := 1) dL_law_376 rfl (by decide) ?_
  refine g_iadd (pc' := 378) dL_law_377 rfl ?_
  refine g_sld (pc' := 379) (v := xs (i + 1)) hX (sc_in (d := 1) rfl hi hL (by decide)) dL_law_378 rfl (congrArg xs (sc_cl (d := 1) rfl (by omega))) ?_
  refine g_aload_n (pc' := 380) dL_law_379 rfl rfl rfl ?_
  refine g_iload_n (pc' := 381) dL_law_380 rfl rfl rfl ?_
  refine g_iconst (pc' := 382) (v := 2) dL_law_381 rfl (by decide) ?_
  refine g_iadd (pc' := 383) dL_law_382 rfl ?_
  refine g_sld (pc' := 384) (v := xs (i + 2)) hX (sc_in (d := 2) rfl hi hL (by decide)) dL_law_383 rfl (congrArg xs (sc_cl (d := 2) rfl (by omega))) ?_
  refine g_aload_n (pc' := 385) dL_law_384 rfl rfl rfl ?_
  refine g_iload_n (pc' := 386) dL_law_385 rfl rfl rfl ?_
  refine g_iconst (pc' := 387) (v := 3) dL_law_386 rfl (by decide) ?_
  refine g_iadd (pc' := 388) dL_law_387 rfl ?_
  refine g_sld (pc' := 389) (v := xs (i + 3)) hX (sc_in (d := 3) rfl hi hL (by decide)) dL_law_388 rfl (congrArg xs (sc_cl (d := 3) rfl (by omega))) ?_
  refine g_callV (pc' := 392) (mx := mdX3_set) (as := [.int (xs (i + 1)), .int (xs (i + 2)), .int (xs (i + 3))]) (wX3_set g hA w1 M (xs (i + 1)) (xs (i + 2)) (xs (i + 3)) h3) oX3_set ⟨Nat.le_of_ble_eq_true rfl, Nat.le_of_ble_eq_true rfl⟩ dL_law_389 rfl (ci := 3) rfl tC ⟨by decide +kernel, by decide +kernel⟩ oX3_set.2.2.2 rfl q1185 q1186 q1187 q1187 q1186 (Nat.le_of_ble_eq_true rfl) (Nat.le_of_ble_eq_true rfl) (g_rI ?_) g_nt rfl
  refine g_icmp_eq (tgt := 1426) (pc' := 395) dL_law_392 (by decide) rfl (fun _ => kk) (fun h => absurd rfl h)
set_option maxHeartbeats 4000000 in
theorem lc5 {g : bGh} {A : tA} (hA : tO A) {n0 u0 : Nat} {Q : Outcome → bWl → Prop} {xa b Ln i : Nat} {xs : Nat → Int32} {w w1 : bWl} {M M' : tM} {r : Int32} (hX : scrAt g b Ln xs) (hi : i + 5 < Ln) (hL : Ln ≤ 384) (hxa : hC w xa = some 0) (h1 : fX0_turn w xa (xs (i + 1)) (xs (i + 2)) = some (r, w1)) (h2 : tW A M w1 = w1) (h3 : fX3_turn M (xs (i + 1)) (xs (i + 2)) = some (r, M')) (kk : bG (g, mdL, n0, u0, Q) (tW A M' w1) 1426 [some (.ref b), some (.ref xa), some (.ref A.1), some (.int (nI i))] []) : bG (g, mdL, n0, u0, Q) w 397 [some (.ref b), some (.ref xa), some (.ref A.1), some (.int (nI i))] [] := by
  refine g_aload_n (pc' := 398) dL_law_397 rfl rfl rfl ?_
  refine g_aload_n (pc' := 399) dL_law_398 rfl rfl rfl ?_
  refine g_iload_n (pc' := 400) dL_law_399 rfl rfl rfl ?_
  refine g_iconst (pc' := 401) (v := 1) dL_law_400 rfl (by decide) ?_
  refine g_iadd (pc' := 402) dL_law_401 rfl ?_
  refine g_sld (pc' := 403) (v := xs (i + 1)) hX (sc_in (d := 1) rfl hi hL (by decide)) dL_law_402 rfl (congrArg xs (sc_cl (d := 1) rfl (by omega))) ?_
  refine g_aload_n (pc' := 404) dL_law_403 rfl rfl rfl ?_
  refine g_iload_n (pc' := 405) dL_law_404 rfl rfl rfl ?_
  refine g_iconst (pc' := 406) (v := 2) dL_law_405 rfl (by decide) ?_
  refine g_iadd (pc' := 407) dL_law_406 rfl ?_
  refine g_sld (pc' := 408) (v := xs (i + 2)) hX (sc_in (d := 2) rfl hi hL (by decide)) dL_law_407 rfl (congrArg xs (sc_cl (d := 2) rfl (by omega))) ?_
  refine g_callV (pc' := 411) (mx := mdX0_turn) (as := [.int (xs (i + 1)), .int (xs (i + 2))]) (wX0_turn g _ xa (xs (i + 1)) (xs (i + 2)) h1) oX0_turn ⟨Nat.le_of_ble_eq_true rfl, Nat.le_of_ble_eq_true rfl⟩ dL_law_408 rfl (ci := 0) rfl hxa ⟨by decide +kernel, by decide +kernel⟩ oX0_turn.2.2.2 rfl q503 q504 q505 q505 q504 (Nat.le_of_ble_eq_true rfl) (Nat.le_of_ble_eq_true rfl) (g_rI ?_) g_nt rfl
  rw [← h2]
  refine g_aload_n (pc' := 412) dL_law_411 rfl rfl rfl ?_
  refine g_aload_n (pc' := 413) dL_law_412 rfl rfl rfl ?_
  refine g_iload_n (pc' := 414) dL_law_413 rfl rfl rfl ?_
  refine g_iconst (pc' := 415) (v := 1) dL_law_414 rfl (by decide) ?_
  refine g_iadd (pc' := 416) dL_law_415 rfl ?_
  refine g_sld (pc' := 417) (v := xs (i + 1)) hX (sc_in (d := 1) rfl hi hL (by decide)) dL_law_416 rfl (congrArg xs (sc_cl (d := 1) rfl (by omega))) ?_
  refine g_aload_n (pc' := 418) dL_law_417 rfl rfl rfl ?_
  refine g_iload_n (pc' := 419) dL_law_418 rfl rfl rfl ?_
  refine g_iconst (pc' := 420) (v := 2) dL_law_419 rfl (by decide) ?_
  refine g_iadd (pc' := 421) dL_law_420 rfl ?_
  refine g_sld (pc' := 422) (v := xs (i + 2)) hX (sc_in (d := 2) rfl hi hL (by decide)) dL_law_421 rfl (congrArg xs (sc_cl (d := 2) rfl (by omega))) ?_
  refine g_callV (pc' := 425) (mx := mdX3_turn) (as := [.int (xs (i + 1)), .int (xs (i + 2))]) (wX3_turn g hA w1 M (xs (i + 1)) (xs (i + 2)) h3) oX3_turn ⟨Nat.le_of_ble_eq_true rfl, Nat.le_of_ble_eq_true rfl⟩ dL_law_422 rfl (ci := 3) rfl tC ⟨by decide +kernel, by decide +kernel⟩ oX3_turn.2.2.2 rfl q1190 q1191 q1192 q1192 q1191 (Nat.le_of_ble_eq_true rfl) (Nat.le_of_ble_eq_true rfl) (g_rI ?_) g_nt rfl
  refine g_icmp_eq (tgt := 1426) (pc' := 428) dL_law_425 (by decide) rfl (fun _ => kk) (fun h => absurd rfl h)
set_option maxHeartbeats 4000000 in
theorem lc6 {g : bGh} {A : tA} (hA : tO A) {n0 u0 : Nat} {Q : Outcome → bWl → Prop} {xa b Ln i : Nat} {xs : Nat → Int32} {w w1 : bWl} {M M' : tM} {r : Int32} (hX : scrAt g b Ln xs) (hi : i + 5 < Ln) (hL : Ln ≤ 384) (hxa : hC w xa = some 0) (h1 : fX0_as w xa (xs (i + 1)) (xs (i + 2)) = some (r, w1)) (h2 : tW A M w1 = w1) (h3 : fX3_as M (xs (i + 1)) (xs (i + 2)) = some (r, M')) (kk : bG (g, mdL, n0, u0, Q) (tW A M' w1) 1426 [some (.ref b), some (.ref xa), some (.ref A.1), some (.int (nI i))] []) : bG (g, mdL, n0, u0, Q) w 430 [some (.ref b), some (.ref xa), some (.ref A.1), some (.int (nI i))] [] := by
  refine g_aload_n (pc' := 431) dL_law_430 rfl rfl rfl ?_
  refine g_aload_n (pc' := 432) dL_law_431 rfl rfl rfl ?_
  refine g_iload_n (pc' := 433) dL_law_432 rfl rfl rfl ?_
  refine g_iconst (pc' := 434) (v := 1) dL_law_433 rfl (by decide) ?_
  refine g_iadd (pc' := 435) dL_law_434 rfl ?_
  refine g_sld (pc' := 436) (v := xs (i + 1)) hX (sc_in (d := 1) rfl hi hL (by decide)) dL_law_435 rfl (congrArg xs (sc_cl (d := 1) rfl (by omega))) ?_
  refine g_aload_n (pc' := 437) dL_law_436 rfl rfl rfl ?_
  refine g_iload_n (pc' := 438) dL_law_437 rfl rfl rfl ?_
  refine g_iconst (pc' := 439) (v := 2) dL_law_438 rfl (by decide) ?_
  refine g_iadd (pc' := 440) dL_law_439 rfl ?_
  refine g_sld (pc' := 441) (v := xs (i + 2)) hX (sc_in (d := 2) rfl hi hL (by decide)) dL_law_440 rfl (congrArg xs (sc_cl (d := 2) rfl (by omega))) ?_
  refine g_callV (pc' := 444) (mx := mdX0_as) (as := [.int (xs (i + 1)), .int (xs (i + 2))]) (wX0_as g _ xa (xs (i + 1)) (xs (i + 2)) h1) oX0_as ⟨Nat.le_of_ble_eq_true rfl, Nat.le_of_ble_eq_true rfl⟩ dL_law_441 rfl (ci := 0) rfl hxa ⟨by decide +kernel, by decide +kernel⟩ oX0_as.2.2.2 rfl q524 q525 q526 q526 q525 (Nat.le_of_ble_eq_true rfl) (Nat.le_of_ble_eq_true rfl) (g_rI ?_) g_nt rfl
  rw [← h2]
  refine g_aload_n (pc' := 445) dL_law_444 rfl rfl rfl ?_
  refine g_aload_n (pc' := 446) dL_law_445 rfl rfl rfl ?_
  refine g_iload_n (pc' := 447) dL_law_446 rfl rfl rfl ?_
  refine g_iconst (pc' := 448) (v := 1) dL_law_447 rfl (by decide) ?_
  refine g_iadd (pc' := 449) dL_law_448 rfl ?_
  refine g_sld (pc' := 450) (v := xs (i + 1)) hX (sc_in (d := 1) rfl hi hL (by decide)) dL_law_449 rfl (congrArg xs (sc_cl (d := 1) rfl (by omega))) ?_
  refine g_aload_n (pc' := 451) dL_law_450 rfl rfl rfl ?_
  refine g_iload_n (pc' := 452) dL_law_451 rfl rfl rfl ?_
  refine g_iconst (pc' := 453) (v := 2) dL_law_452 rfl (by decide) ?_
  refine g_iadd (pc' := 454) dL_law_453 rfl ?_
  refine g_sld (pc' := 455) (v := xs (i + 2)) hX (sc_in (d := 2) rfl hi hL (by decide)) dL_law_454 rfl (congrArg xs (sc_cl (d := 2) rfl (by omega))) ?_
  refine g_callV (pc' := 458) (mx := mdX3_as) (as := [.int (xs (i + 1)), .int (xs (i + 2))]) (wX3_as g hA w1 M (xs (i + 1)) (xs (i + 2)) h3) oX3_as ⟨Nat.le_of_ble_eq_true rfl, Nat.le_of_ble_eq_true rfl⟩ dL_law_455 rfl (ci := 3) rfl tC ⟨by decide +kernel, by decide +kernel⟩ oX3_as.2.2.2 rfl q1194 q1195 q1196 q1196 q1195 (Nat.le_of_ble_eq_true rfl) (Nat.le_of_ble_eq_true rfl) (g_rI ?_) g_nt rfl
  refine g_icmp_eq (tgt := 1426) (pc' := 461) dL_law_458 (by decide) rfl (fun _ => kk) (fun h => absurd rfl h)
set_option maxHeartbeats 4000000 in
theorem lc7 {g : bGh} {A : tA} (hA : tO A) {n0 u0 : Nat} {Q : Outcome → bWl → Prop} {xa b Ln i : Nat} {xs : Nat → Int32} {w w1 : bWl} {M M' : tM} {r : Int32} (hX : scrAt g b Ln xs) (hi : i + 5 < Ln) (hL : Ln ≤ 384) (hxa : hC w xa = some 0) (h1 : fX0_takes w xa (xs (i + 1)) (xs (i + 2)) = some (r, w1)) (h2 : tW A M w1 = w1) (h3 : fX3_takes M (xs (i + 1)) (xs (i + 2)) = some (r, M')) (kk : bG (g, mdL, n0, u0, Q) (tW A M' w1) 1426 [some (.ref b), some (.ref xa), some (.ref A.1), some (.int (nI i))] []) : bG (g, mdL, n0, u0, Q) w 463 [some (.ref b), some (.ref xa), some (.ref A.1), some (.int (nI i))] [] := by
  refine g_aload_n (pc' := 464) dL_law_463 rfl rfl rfl ?_
  refine g_aload_n (pc' := 465) dL_law_464 rfl rfl rfl ?_
  refine g_iload_n (pc' := 466) dL_law_465 rfl rfl rfl ?_
  refine g_iconst (pc' := 467) (v := 1) dL_law_466 rfl (by decide) ?_
  refine g_iadd (pc' := 468) dL_law_467 rfl ?_
  refine g_sld (pc' := 469) (v := xs (i + 1)) hX (sc_in (d := 1) rfl hi hL (by decide)) dL_law_468 rfl (congrArg xs (sc_cl (d := 1) rfl (by omega))) ?_
  refine g_aload_n (pc' := 470) dL_law_469 rfl rfl rfl ?_
  refine g_iload_n (pc' := 471) dL_law_470 rfl rfl rfl ?_
  refine g_iconst (pc' := 472) (v := 2) dL_law_471 rfl (by decide) ?_
  refine g_iadd (pc' := 473) dL_law_472 rfl ?_
  refine g_sld (pc' := 474) (v := xs (i + 2)) hX (sc_in (d := 2) rfl hi hL (by decide)) dL_law_473 rfl (congrArg xs (sc_cl (d := 2) rfl (by omega))) ?_
  refine g_callV (pc' := 477) (mx := mdX0_takes) (as := [.int (xs (i + 1)), .int (xs (i + 2))]) (wX0_takes g _ xa (xs (i + 1)) (xs (i + 2)) h1) oX0_takes ⟨Nat.le_of_ble_eq_true rfl, Nat.le_of_ble_eq_true rfl⟩ dL_law_474 rfl (ci := 0) rfl hxa ⟨by decide +kernel, by decide +kernel⟩ oX0_takes.2.2.2 rfl q545 q546 q547 q547 q546 (Nat.le_of_ble_eq_true rfl) (Nat.le_of_ble_eq_true rfl) (g_rI ?_) g_nt rfl
  rw [← h2]
  refine g_aload_n (pc' := 478) dL_law_477 rfl rfl rfl ?_
  refine g_aload_n (pc' := 479) dL_law_478 rfl rfl rfl ?_
  refine g_iload_n (pc' := 480) dL_law_479 rfl rfl rfl ?_
  refine g_iconst (pc' := 481) (v := 1) dL_law_480 rfl (by decide) ?_
  refine g_iadd (pc' := 482) dL_law_481 rfl ?_
  refine g_sld (pc' := 483) (v := xs (i + 1)) hX (sc_in (d := 1) rfl hi hL (by decide)) dL_law_482 rfl (congrArg xs (sc_cl (d := 1) rfl (by omega))) ?_
  refine g_aload_n (pc' := 484) dL_law_483 rfl rfl rfl ?_
  refine g_iload_n (pc' := 485) dL_law_484 rfl rfl rfl ?_
  refine g_iconst (pc' := 486) (v := 2) dL_law_485 rfl (by decide) ?_
  refine g_iadd (pc' := 487) dL_law_486 rfl ?_
  refine g_sld (pc' := 488) (v := xs (i + 2)) hX (sc_in (d := 2) rfl hi hL (by decide)) dL_law_487 rfl (congrArg xs (sc_cl (d := 2) rfl (by omega))) ?_
  refine g_callV (pc' := 491) (mx := mdX3_takes) (as := [.int (xs (i + 1)), .int (xs (i + 2))]) (wX3_takes g hA w1 M (xs (i + 1)) (xs (i + 2)) h3) oX3_takes ⟨Nat.le_of_ble_eq_true rfl, Nat.le_of_ble_eq_true rfl⟩ dL_law_488 rfl (ci := 3) rfl tC ⟨by decide +kernel, by decide +kernel⟩ oX3_takes.2.2.2 rfl q1202 q1203 q1204 q1204 q1203 (Nat.le_of_ble_eq_true rfl) (Nat.le_of_ble_eq_true rfl) (g_rI ?_) g_nt rfl
  refine g_icmp_eq (tgt := 1426) (pc' := 494) dL_law_491 (by decide) rfl (fun _ => kk) (fun h => absurd rfl h)
set_option maxHeartbeats 4000000 in
theorem lc8 {g : bGh} {A : tA} (hA : tO A) {n0 u0 : Nat} {Q : Outcome → bWl → Prop} {xa b Ln i : Nat} {xs : Nat → Int32} {w w1 : bWl} {M M' : tM} {r : Int32} (hX : scrAt g b Ln xs) (hi : i + 5 < Ln) (hL : Ln ≤ 384) (hxa : hC w xa = some 0) (h1 : fX0_comeIn w xa (xs (i + 1)) = some (r, w1)) (h2 : tW A M w1 = w1) (h3 : fX3_comeIn M (xs (i + 1)) = some (r, M')) (kk : bG (g, mdL, n0, u0, Q) (tW A M' w1) 1426 [some (.ref b), some (.ref xa), some (.ref A.1), some (.int (nI i))] []) : bG (g, mdL, n0, u0, Q) w 496 [some (.ref b), some (.ref xa), some (.ref A.1), some (.int (nI i))] [] := by
  refine g_aload_n (pc' := 497) dL_law_496 rfl rfl rfl ?_
  refine g_aload_n (pc' := 498) dL_law_497 rfl rfl rfl ?_
  refine g_iload_n (pc' := 499) dL_law_498 rfl rfl rfl ?_
  refine g_iconst (pc' := 500) (v := 1) dL_law_499 rfl (by decide) ?_
  refine g_iadd (pc' := 501) dL_law_500 rfl ?_
  refine g_sld (pc' := 502) (v := xs (i + 1)) hX (sc_in (d := 1) rfl hi hL (by decide)) dL_law_501 rfl (congrArg xs (sc_cl (d := 1) rfl (by omega))) ?_
  refine g_callV (pc' := 505) (mx := mdX0_comeIn) (as := [.int (xs (i + 1))]) (wX0_comeIn g _ xa (xs (i + 1)) h1) oX0_comeIn ⟨Nat.le_of_ble_eq_true rfl, Nat.le_of_ble_eq_true rfl⟩ dL_law_502 rfl (ci := 0) rfl hxa ⟨by decide +kernel, by decide +kernel⟩ oX0_comeIn.2.2.2 rfl q564 q565 q566 q566 q565 (Nat.le_of_ble_eq_true rfl) (Nat.le_of_ble_eq_true rfl) (g_rI ?_) g_nt rfl
  rw [← h2]
  refine g_aload_n (pc' := 506) dL_law_505 rfl rfl rfl ?_
  refine g_aload_n (pc' := 507) dL_law_506 rfl rfl rfl ?_
  refine g_iload_n (pc' := 508) dL_law_507 rfl rfl rfl ?_
  refine g_iconst (pc' := 509) (v := 1) dL_law_508 rfl (by decide) ?_
  refine g_iadd (pc' := 510) dL_law_509 rfl ?_
  refine g_sld (pc' := 511) (v := xs (i + 1)) hX (sc_in (d := 1) rfl hi hL (by decide)) dL_law_510 rfl (congrArg xs (sc_cl (d := 1) rfl (by omega))) ?_
  refine g_callV (pc' := 514) (mx := mdX3_comeIn) (as := [.int (xs (i + 1))]) (wX3_comeIn g hA w1 M (xs (i + 1)) h3) oX3_comeIn ⟨Nat.le_of_ble_eq_true rfl, Nat.le_of_ble_eq_true rfl⟩ dL_law_511 rfl (ci := 3) rfl tC ⟨by decide +kernel, by decide +kernel⟩ oX3_comeIn.2.2.2 rfl q1217 q1218 q1219 q1219 q1218 (Nat.le_of_ble_eq_true rfl) (Nat.le_of_ble_eq_true rfl) (g_rI ?_) g_nt rfl
  refine g_icmp_eq (tgt := 1426) (pc' := 517) dL_law_514 (by decide) rfl (fun _ => kk) (fun h => absurd rfl h)
set_option maxHeartbeats 4000000 in
theorem lc9 {g : bGh} {A : tA} (hA : tO A) {n0 u0 : Nat} {Q : Outcome → bWl → Prop} {xa b Ln i : Nat} {xs : Nat → Int32} {w w1 : bWl} {M M' : tM} {r : Int32} (hX : scrAt g b Ln xs) (hi : i + 5 < Ln) (hL : Ln ≤ 384) (hxa : hC w xa = some 0) (h1 : fX0_improve w xa (xs (i + 1)) (xs (i + 2)) = some (r, w1)) (h2 : tW A M w1 = w1) (h3 : fX3_improve M (xs (i + 1)) (xs (i + 2)) = some (r, M')) (kk : bG (g, mdL, n0, u0, Q) (tW A M' w1) 1426 [some (.ref b), some (.ref xa), some (.ref A.1), some (.int (nI i))] []) : bG (g, mdL, n0, u0, Q) w 519 [some (.ref b), some (.ref xa), some (.ref A.1), some (.int (nI i))] [] := by
  refine g_aload_n (pc' := 520) dL_law_519 rfl rfl rfl ?_
  refine g_aload_n (pc' := 521) dL_law_520 rfl rfl rfl ?_
  refine g_iload_n (pc' := 522) dL_law_521 rfl rfl rfl ?_
  refine g_iconst (pc' := 523) (v := 1) dL_law_522 rfl (by decide) ?_
  refine g_iadd (pc' := 524) dL_law_523 rfl ?_
  refine g_sld (pc' := 525) (v := xs (i + 1)) hX (sc_in (d := 1) rfl hi hL (by decide)) dL_law_524 rfl (congrArg xs (sc_cl (d := 1) rfl (by omega))) ?_
  refine g_aload_n (pc' := 526) dL_law_525 rfl rfl rfl ?_
  refine g_iload_n (pc' := 527) dL_law_526 rfl rfl rfl ?_
  refine g_iconst (pc' := 528) (v := 2) dL_law_527 rfl (by decide) ?_
  refine g_iadd (pc' := 529) dL_law_528 rfl ?_
  refine g_sld (pc' := 530) (v := xs (i + 2)) hX (sc_in (d := 2) rfl hi hL (by decide)) dL_law_529 rfl (congrArg xs (sc_cl (d := 2) rfl (by omega))) ?_
  refine g_callV (pc' := 533) (mx := mdX0_improve) (as := [.int (xs (i + 1)), .int (xs (i + 2))]) (wX0_improve g _ xa (xs (i + 1)) (xs (i + 2)) h1) oX0_improve ⟨Nat.le_of_ble_eq_true rfl, Nat.le_of_ble_eq_true rfl⟩ dL_law_530 rfl (ci := 0) rfl hxa ⟨by decide +kernel, by decide +kernel⟩ oX0_improve.2.2.2 rfl q595 q596 q597 q597 q596 (Nat.le_of_ble_eq_true rfl) (Nat.le_of_ble_eq_true rfl) (g_rI ?_) g_nt rfl
  rw [← h2]
  refine g_aload_n (pc' := 534) dL_law_533 rfl rfl rfl ?_
  refine g_aload_n (pc' := 535) dL_law_534 rfl rfl rfl ?_
  refine g_iload_n (pc' := 536) dL_law_535 rfl rfl rfl ?_
  refine g_iconst (pc' := 537) (v := 1) dL_law_536 rfl (by decide) ?_
  refine g_iadd (pc' := 538) dL_law_537 rfl ?_
  refine g_sld (pc' := 539) (v := xs (i + 1)) hX (sc_in (d := 1) rfl hi hL (by decide)) dL_law_538 rfl (congrArg xs (sc_cl (d := 1) rfl (by omega))) ?_
  refine g_aload_n (pc' := 540) dL_law_539 rfl rfl rfl ?_
  refine g_iload_n (pc' := 541) dL_law_540 rfl rfl rfl ?_
  refine g_iconst (pc' := 542) (v := 2) dL_law_541 rfl (by decide) ?_
  refine g_iadd (pc' := 543) dL_law_542 rfl ?_
  refine g_sld (pc' := 544) (v := xs (i + 2)) hX (sc_in (d := 2) rfl hi hL (by decide)) dL_law_543 rfl (congrArg xs (sc_cl (d := 2) rfl (by omega))) ?_
  refine g_callV (pc' := 547) (mx := mdX3_improve) (as := [.int (xs (i + 1)), .int (xs (i + 2))]) (wX3_improve g hA w1 M (xs (i + 1)) (xs (i + 2)) h3) oX3_improve ⟨Nat.le_of_ble_eq_true rfl, Nat.le_of_ble_eq_true rfl⟩ dL_law_544 rfl (ci := 3) rfl tC ⟨by decide +kernel, by decide +kernel⟩ oX3_improve.2.2.2 rfl q1230 q1231 q1232 q1232 q1231 (Nat.le_of_ble_eq_true rfl) (Nat.le_of_ble_eq_true rfl) (g_rI ?_) g_nt rfl
  refine g_icmp_eq (tgt := 1426) (pc' := 550) dL_law_547 (by decide) rfl (fun _ => kk) (fun h => absurd rfl h)
set_option maxHeartbeats 4000000 in
theorem lc10 {g : bGh} {A : tA} (hA : tO A) {n0 u0 : Nat} {Q : Outcome → bWl → Prop} {xa b Ln i : Nat} {xs : Nat → Int32} {w w1 : bWl} {M M' : tM} {r : Int32} (hX : scrAt g b Ln xs) (hi : i + 5 < Ln) (hL : Ln ≤ 384) (hxa : hC w xa = some 0) (h1 : fX0_comesTrue w xa (xs (i + 1)) = some (r, w1)) (h2 : tW A M w1 = w1) (h3 : fX3_comesTrue M (xs (i + 1)) = some (r, M')) (kk : bG (g, mdL, n0, u0, Q) (tW A M' w1) 1426 [some (.ref b), some (.ref xa), some (.ref A.1), some (.int (nI i))] []) : bG (g, mdL, n0, u0, Q) w 552 [some (.ref b), some (.ref xa), some (.ref A.1), some (.int (nI i))] [] := by
  refine g_aload_n (pc' := 553) dL_law_552 rfl rfl rfl ?_
  refine g_aload_n (pc' := 554) dL_law_553 rfl rfl rfl ?_
  refine g_iload_n (pc' := 555) dL_law_554 rfl rfl rfl ?_
  refine g_iconst (pc' := 556) (v := 1) dL_law_555 rfl (by decide) ?_
  refine g_iadd (pc' := 557) dL_law_556 rfl ?_
  refine g_sld (pc' := 558) (v := xs (i + 1)) hX (sc_in (d := 1) rfl hi hL (by decide)) dL_law_557 rfl (congrArg xs (sc_cl (d := 1) rfl (by omega))) ?_
  refine g_callV (pc' := 561) (mx := mdX0_comesTrue) (as := [.int (xs (i + 1))]) (wX0_comesTrue g _ xa (xs (i + 1)) h1) oX0_comesTrue ⟨Nat.le_of_ble_eq_true rfl, Nat.le_of_ble_eq_true rfl⟩ dL_law_558 rfl (ci := 0) rfl hxa ⟨by decide +kernel, by decide +kernel⟩ oX0_comesTrue.2.2.2 rfl q621 q622 q623 q623 q622 (Nat.le_of_ble_eq_true rfl) (Nat.le_of_ble_eq_true rfl) (g_rI ?_) g_nt rfl
  rw [← h2]
  refine g_aload_n (pc' := 562) dL_law_561 rfl rfl rfl ?_
  refine g_aload_n (pc' := 563) dL_law_562 rfl rfl rfl ?_
  refine g_iload_n (pc' := 564) dL_law_563 rfl rfl rfl ?_
  refine g_iconst (pc' := 565) (v := 1) dL_law_564 rfl (by decide) ?_
  refine g_iadd (pc' := 566) dL_law_565 rfl ?_
  refine g_sld (pc' := 567) (v := xs (i + 1)) hX (sc_in (d := 1) rfl hi hL (by decide)) dL_law_566 rfl (congrArg xs (sc_cl (d := 1) rfl (by omega))) ?_
  refine g_callV (pc' := 570) (mx := mdX3_comesTrue) (as := [.int (xs (i + 1))]) (wX3_comesTrue g hA w1 M (xs (i + 1)) h3) oX3_comesTrue ⟨Nat.le_of_ble_eq_true rfl, Nat.le_of_ble_eq_true rfl⟩ dL_law_567 rfl (ci := 3) rfl tC ⟨by decide +kernel, by decide +kernel⟩ oX3_comesTrue.2.2.2 rfl q1242 q1243 q1244 q1244 q1243 (Nat.le_of_ble_eq_true rfl) (Nat.le_of_ble_eq_true rfl) (g_rI ?_) g_nt rfl
  refine g_icmp_eq (tgt := 1426) (pc' := 573) dL_law_570 (by decide) rfl (fun _ => kk) (fun h => absurd rfl h)
set_option maxHeartbeats 4000000 in
theorem lc11 {g : bGh} {A : tA} (hA : tO A) {n0 u0 : Nat} {Q : Outcome → bWl → Prop} {xa b Ln i : Nat} {xs : Nat → Int32} {w w1 : bWl} {M M' : tM} {r : Int32} (hX : scrAt g b Ln xs) (hi : i + 5 < Ln) (hL : Ln ≤ 384) (hxa : hC w xa = some 0) (h1 : fX0_forget w xa (xs (i + 1)) = some (r, w1)) (h2 : tW A M w1 = w1) (h3 : fX3_forget M (xs (i + 1)) = some (r, M')) (kk : bG (g, mdL, n0, u0, Q) (tW A M' w1) 1426 [some (.ref b), some (.ref xa), some (.ref A.1), some (.int (nI i))] []) : bG (g, mdL, n0, u0, Q) w 575 [some (.ref b), some (.ref xa), some (.ref A.1), some (.int (nI i))] [] := by
  refine g_aload_n (pc' := 576) dL_law_575 rfl rfl rfl ?_
  refine g_aload_n (pc' := 577) dL_law_576 rfl rfl rfl ?_
  refine g_iload_n (pc' := 578) dL_law_577 rfl rfl rfl ?_
  refine g_iconst (pc' := 579) (v := 1) dL_law_578 rfl (by decide) ?_
  refine g_iadd (pc' := 580) dL_law_579 rfl ?_
  refine g_sld (pc' := 581) (v := xs (i + 1)) hX (sc_in (d := 1) rfl hi hL (by decide)) dL_law_580 rfl (congrArg xs (sc_cl (d := 1) rfl (by omega))) ?_
  refine g_callV (pc' := 584) (mx := mdX0_forget) (as := [.int (xs (i + 1))]) (wX0_forget g _ xa (xs (i + 1)) h1) oX0_forget ⟨Nat.le_of_ble_eq_true rfl, Nat.le_of_ble_eq_true rfl⟩ dL_law_581 rfl (ci := 0) rfl hxa ⟨by decide +kernel, by decide +kernel⟩ oX0_forget.2.2.2 rfl q630 q631 q632 q632 q631 (Nat.le_of_ble_eq_true rfl) (Nat.le_of_ble_eq_true rfl) (g_rI ?_) g_nt rfl
  rw [← h2]
  refine g_aload_n (pc' := 585) dL_law_584 rfl rfl rfl ?_
  refine g_aload_n (pc' := 586) dL_law_585 rfl rfl rfl ?_
  refine g_iload_n (pc' := 587) dL_law_586 rfl rfl rfl ?_
  refine g_iconst (pc' := 588) (v := 1) dL_law_587 rfl (by decide) ?_
  refine g_iadd (pc' := 589) dL_law_588 rfl ?_
  refine g_sld (pc' := 590) (v := xs (i + 1)) hX (sc_in (d := 1) rfl hi hL (by decide)) dL_law_589 rfl (congrArg xs (sc_cl (d := 1) rfl (by omega))) ?_
  refine g_callV (pc' := 593) (mx := mdX3_forget) (as := [.int (xs (i + 1))]) (wX3_forget g hA w1 M (xs (i + 1)) h3) oX3_forget ⟨Nat.le_of_ble_eq_true rfl, Nat.le_of_ble_eq_true rfl⟩ dL_law_590 rfl (ci := 3) rfl tC ⟨by decide +kernel, by decide +kernel⟩ oX3_forget.2.2.2 rfl q1250 q1251 q1252 q1252 q1251 (Nat.le_of_ble_eq_true rfl) (Nat.le_of_ble_eq_true rfl) (g_rI ?_) g_nt rfl
  refine g_icmp_eq (tgt := 1426) (pc' := 596) dL_law_593 (by decide) rfl (fun _ => kk) (fun h => absurd rfl h)
set_option maxHeartbeats 4000000 in
theorem lc12 {g : bGh} {A : tA} (hA : tO A) {n0 u0 : Nat} {Q : Outcome → bWl → Prop} {xa b Ln i : Nat} {xs : Nat → Int32} {w w1 : bWl} {M M' : tM} {r : Int32} (hX : scrAt g b Ln xs) (hi : i + 5 < Ln) (hL : Ln ≤ 384) (hxa : hC w xa = some 0) (h1 : fX0_days w xa (xs (i + 1)) = some (r, w1)) (h2 : tW A M w1 = w1) (h3 : fX3_days M (xs (i + 1)) = some (r, M')) (kk : bG (g, mdL, n0, u0, Q) (tW A M' w1) 1426 [some (.ref b), some (.ref xa), some (.ref A.1), some (.int (nI i))] []) : bG (g, mdL, n0, u0, Q) w 598 [some (.ref b), some (.ref xa), some (.ref A.1), some (.int (nI i))] [] := by
  refine g_aload_n (pc' := 599) dL_law_598 rfl rfl rfl ?_
  refine g_aload_n (pc' := 600) dL_law_599 rfl rfl rfl ?_
  refine g_iload_n (pc' := 601) dL_law_600 rfl rfl rfl ?_
  refine g_iconst (pc' := 602) (v := 1) dL_law_601 rfl (by decide) ?_
  refine g_iadd (pc' := 603) dL_law_602 rfl ?_
  refine g_sld (pc' := 604) (v := xs (i + 1)) hX (sc_in (d := 1) rfl hi hL (by decide)) dL_law_603 rfl (congrArg xs (sc_cl (d := 1) rfl (by omega))) ?_
  refine g_callV (pc' := 607) (mx := mdX0_days) (as := [.int (xs (i + 1))]) (wX0_days g _ xa (xs (i + 1)) h1) oX0_days ⟨Nat.le_of_ble_eq_true rfl, Nat.le_of_ble_eq_true rfl⟩ dL_law_604 rfl (ci := 0) rfl hxa ⟨by decide +kernel, by decide +kernel⟩ oX0_days.2.2.2 rfl q634 q635 q636 q636 q635 (Nat.le_of_ble_eq_true rfl) (Nat.le_of_ble_eq_true rfl) (g_rI ?_) g_nt rfl
  rw [← h2]
  refine g_aload_n (pc' := 608) dL_law_607 rfl rfl rfl ?_
  refine g_aload_n (pc' := 609) dL_law_608 rfl rfl rfl ?_
  refine g_iload_n (pc' := 610) dL_law_609 rfl rfl rfl ?_
  refine g_iconst (pc' := 611) (v := 1) dL_law_610 rfl (by decide) ?_
  refine g_iadd (pc' := 612) dL_law_611 rfl ?_
  refine g_sld (pc' := 613) (v := xs (i + 1)) hX (sc_in (d := 1) rfl hi hL (by decide)) dL_law_612 rfl (congrArg xs (sc_cl (d := 1) rfl (by omega))) ?_
  refine g_callV (pc' := 616) (mx := mdX3_days) (as := [.int (xs (i + 1))]) (wX3_days g hA w1 M (xs (i + 1)) h3) oX3_days ⟨Nat.le_of_ble_eq_true rfl, Nat.le_of_ble_eq_true rfl⟩ dL_law_613 rfl (ci := 3) rfl tC ⟨by decide +kernel, by decide +kernel⟩ oX3_days.2.2.2 rfl q1254 q1255 q1256 q1256 q1255 (Nat.le_of_ble_eq_true rfl) (Nat.le_of_ble_eq_true rfl) (g_rI ?_) g_nt rfl
  refine g_icmp_eq (tgt := 1426) (pc' := 619) dL_law_616 (by decide) rfl (fun _ => kk) (fun h => absurd rfl h)
set_option maxHeartbeats 4000000 in
theorem lc13 {g : bGh} {A : tA} (hA : tO A) {n0 u0 : Nat} {Q : Outcome → bWl → Prop} {xa b Ln i : Nat} {xs : Nat → Int32} {w w1 : bWl} {M M' : tM} {r : Int32} (hX : scrAt g b Ln xs) (hi : i + 5 < Ln) (hL : Ln ≤ 384) (hxa : hC w xa = some 0) (h1 : fX0_now w xa (xs (i + 1)) = some (r, w1)) (h2 : tW A M w1 = w1) (h3 : fX3_now M (xs (i + 1)) = some (r, M')) (kk : bG (g, mdL, n0, u0, Q) (tW A M' w1) 1426 [some (.ref b), some (.ref xa), some (.ref A.1), some (.int (nI i))] []) : bG (g, mdL, n0, u0, Q) w 621 [some (.ref b), some (.ref xa), some (.ref A.1), some (.int (nI i))] [] := by
  refine g_aload_n (pc' := 622) dL_law_621 rfl rfl rfl ?_
  refine g_aload_n (pc' := 623) dL_law_622 rfl rfl rfl ?_
  refine g_iload_n (pc' := 624) dL_law_623 rfl rfl rfl ?_
  refine g_iconst (pc' := 625) (v := 1) dL_law_624 rfl (by decide) ?_
  refine g_iadd (pc' := 626) dL_law_625 rfl ?_
  refine g_sld (pc' := 627) (v := xs (i + 1)) hX (sc_in (d := 1) rfl hi hL (by decide)) dL_law_626 rfl (congrArg xs (sc_cl (d := 1) rfl (by omega))) ?_
  refine g_callV (pc' := 630) (mx := mdX0_now) (as := [.int (xs (i + 1))]) (wX0_now g _ xa (xs (i + 1)) h1) oX0_now ⟨Nat.le_of_ble_eq_true rfl, Nat.le_of_ble_eq_true rfl⟩ dL_law_627 rfl (ci := 0) rfl hxa ⟨by decide +kernel, by decide +kernel⟩ oX0_now.2.2.2 rfl q672 q673 q674 q674 q673 (Nat.le_of_ble_eq_true rfl) (Nat.le_of_ble_eq_true rfl) (g_rI ?_) g_nt rfl
  rw [← h2]
  refine g_aload_n (pc' := 631) dL_law_630 rfl rfl rfl ?_
  refine g_aload_n (pc' := 632) dL_law_631 rfl rfl rfl ?_
  refine g_iload_n (pc' := 633) dL_law_632 rfl rfl rfl ?_
  refine g_iconst (pc' := 634) (v := 1) dL_law_633 rfl (by decide) ?_
  refine g_iadd (pc' := 635) dL_law_634 rfl ?_
  refine g_sld (pc' := 636) (v := xs (i + 1)) hX (sc_in (d := 1) rfl hi hL (by decide)) dL_law_635 rfl (congrArg xs (sc_cl (d := 1) rfl (by omega))) ?_
  refine g_callV (pc' := 639) (mx := mdX3_now) (as := [.int (xs (i + 1))]) (wX3_now g hA w1 M (xs (i + 1)) h3) oX3_now ⟨Nat.le_of_ble_eq_true rfl, Nat.le_of_ble_eq_true rfl⟩ dL_law_636 rfl (ci := 3) rfl tC ⟨by decide +kernel, by decide +kernel⟩ oX3_now.2.2.2 rfl q1283 q1284 q1285 q1285 q1284 (Nat.le_of_ble_eq_true rfl) (Nat.le_of_ble_eq_true rfl) (g_rI ?_) g_nt rfl
  refine g_icmp_eq (tgt := 1426) (pc' := 642) dL_law_639 (by decide) rfl (fun _ => kk) (fun h => absurd rfl h)
set_option maxHeartbeats 4000000 in
theorem lc14 {g : bGh} {A : tA} (hA : tO A) {n0 u0 : Nat} {Q : Outcome → bWl → Prop} {xa b Ln i : Nat} {xs : Nat → Int32} {w w1 : bWl} {M M' : tM} {r : Int32} (hX : scrAt g b Ln xs) (hi : i + 5 < Ln) (hL : Ln ≤ 384) (hxa : hC w xa = some 0) (h1 : fX0_on w xa (xs (i + 1)) (xs (i + 2)) (xs (i + 3)) = some (r, w1)) (h2 : tW A M w1 = w1) (h3 : fX3_on M (xs (i + 1)) (xs (i + 2)) (xs (i + 3)) = some (r, M')) (kk : bG (g, mdL, n0, u0, Q) (tW A M' w1) 1426 [some (.ref b), some (.ref xa), some (.ref A.1), some (.int (nI i))] []) : bG (g, mdL, n0, u0, Q) w 644 [some (.ref b), some (.ref xa), some (.ref A.1), some (.int (nI i))] [] := by
  refine g_aload_n (pc' := 645) dL_law_644 rfl rfl rfl ?_
  refine g_aload_n (pc' := 646) dL_law_645 rfl rfl rfl ?_
  refine g_iload_n (pc' := 647) dL_law_646 rfl rfl rfl ?_
  refine g_iconst (pc' := 648) (v := 1) dL_law_647 rfl (by decide) ?_
  refine g_iadd (pc' := 649) dL_law_648 rfl ?_
  refine g_sld (pc' := 650) (v := xs (i + 1)) hX (sc_in (d := 1) rfl hi hL (by decide)) dL_law_649 rfl (congrArg xs (sc_cl (d := 1) rfl (by omega))) ?_
  refine g_aload_n (pc' := 651) dL_law_650 rfl rfl rfl ?_
  refine g_iload_n (pc' := 652) dL_law_651 rfl rfl rfl ?_
  refine g_iconst (pc' := 653) (v := 2) dL_law_652 rfl (by decide) ?_
  refine g_iadd (pc' := 654) dL_law_653 rfl ?_
  refine g_sld (pc' := 655) (v := xs (i + 2)) hX (sc_in (d := 2) rfl hi hL (by decide)) dL_law_654 rfl (congrArg xs (sc_cl (d := 2) rfl (by omega))) ?_
  refine g_aload_n (pc' := 656) dL_law_655 rfl rfl rfl ?_
  refine g_iload_n (pc' := 657) dL_law_656 rfl rfl rfl ?_
  refine g_iconst (pc' := 658) (v := 3) dL_law_657 rfl (by decide) ?_
  refine g_iadd (pc' := 659) dL_law_658 rfl ?_
  refine g_sld (pc' := 660) (v := xs (i + 3)) hX (sc_in (d := 3) rfl hi hL (by decide)) dL_law_659 rfl (congrArg xs (sc_cl (d := 3) rfl (by omega))) ?_
  refine g_callV (pc' := 663) (mx := mdX0_on) (as := [.int (xs (i + 1)), .int (xs (i + 2)), .int (xs (i + 3))]) (wX0_on g _ xa (xs (i + 1)) (xs (i + 2)) (xs (i + 3)) h1) oX0_on ⟨Nat.le_of_ble_eq_true rfl, Nat.le_of_ble_eq_true rfl⟩ dL_law_660 rfl (ci := 0) rfl hxa ⟨by decide +kernel, by decide +kernel⟩ oX0_on.2.2.2 rfl q695 q696 q697 q697 q696 (Nat.le_of_ble_eq_true rfl) (Nat.le_of_ble_eq_true rfl) (g_rI ?_) g_nt rfl
  rw [← h2]
  refine g_aload_n (pc' := 664) dL_law_663 rfl rfl rfl ?_
  refine g_aload_n (pc' := 665) dL_law_664 rfl rfl rfl ?_
  refine g_iload_n (pc' := 666) dL_law_665 rfl rfl rfl ?_
  refine g_iconst (pc' := 667) (v := 1) dL_law_666 rfl (by decide) ?_
  refine g_iadd (pc' := 668) dL_law_667 rfl ?_
  refine g_sld (pc' := 669) (v := xs (i + 1)) hX (sc_in (d := 1) rfl hi hL (by decide)) dL_law_668 rfl (congrArg xs (sc_cl (d := 1) rfl (by omega))) ?_
  refine g_aload_n (pc' := 670) dL_law_669 rfl rfl rfl ?_
  refine g_iload_n (pc' := 671) dL_law_670 rfl rfl rfl ?_
  refine g_iconst (pc' := 672) (v := 2) dL_law_671 rfl (by decide) ?_
  refine g_iadd (pc' := 673) dL_law_672 rfl ?_
  refine g_sld (pc' := 674) (v := xs (i + 2)) hX (sc_in (d := 2) rfl hi hL (by decide)) dL_law_673 rfl (congrArg xs (sc_cl (d := 2) rfl (by omega))) ?_
  refine g_aload_n (pc' := 675) dL_law_674 rfl rfl rfl ?_
  refine g_iload_n (pc' := 676) dL_law_675 rfl rfl rfl ?_
  refine g_iconst (pc' := 677) (v := 3) dL_law_676 rfl (by decide) ?_
  refine g_iadd (pc' := 678) dL_law_677 rfl ?_
  refine g_sld (pc' := 679) (v := xs (i + 3)) hX (sc_in (d := 3) rfl hi hL (by decide)) dL_law_678 rfl (congrArg xs (sc_cl (d := 3) rfl (by omega))) ?_
  refine g_callV (pc' := 682) (mx := mdX3_on) (as := [.int (xs (i + 1)), .int (xs (i + 2)), .int (xs (i + 3))]) (wX3_on g hA w1 M (xs (i + 1)) (xs (i + 2)) (xs (i + 3)) h3) oX3_on ⟨Nat.le_of_ble_eq_true rfl, Nat.le_of_ble_eq_true rfl⟩ dL_law_679 rfl (ci := 3) rfl tC ⟨by decide +kernel, by decide +kernel⟩ oX3_on.2.2.2 rfl q1303 q1304 q1305 q1305 q1304 (Nat.le_of_ble_eq_true rfl) (Nat.le_of_ble_eq_true rfl) (g_rI ?_) g_nt rfl
  refine g_icmp_eq (tgt := 1426) (pc' := 685) dL_law_682 (by decide) rfl (fun _ => kk) (fun h => absurd rfl h)
set_option maxHeartbeats 4000000 in
theorem lc15 {g : bGh} {A : tA} (hA : tO A) {n0 u0 : Nat} {Q : Outcome → bWl → Prop} {xa b Ln i : Nat} {xs : Nat → Int32} {w w1 : bWl} {M M' : tM} {r : Int32} (hX : scrAt g b Ln xs) (hi : i + 5 < Ln) (hL : Ln ≤ 384) (hxa : hC w xa = some 0) (h1 : fX0_larder w xa (xs (i + 1)) (xs (i + 2)) = some (r, w1)) (h2 : tW A M w1 = w1) (h3 : fX3_larder M (xs (i + 1)) (xs (i + 2)) = some (r, M')) (kk : bG (g, mdL, n0, u0, Q) (tW A M' w1) 1426 [some (.ref b), some (.ref xa), some (.ref A.1), some (.int (nI i))] []) : bG (g, mdL, n0, u0, Q) w 687 [some (.ref b), some (.ref xa), some (.ref A.1), some (.int (nI i))] [] := by
  refine g_aload_n (pc' := 688) dL_law_687 rfl rfl rfl ?_
  refine g_aload_n (pc' := 689) dL_law_688 rfl rfl rfl ?_
  refine g_iload_n (pc' := 690) dL_law_689 rfl rfl rfl ?_
  refine g_iconst (pc' := 691) (v := 1) dL_law_690 rfl (by decide) ?_
  refine g_iadd (pc' := 692) dL_law_691 rfl ?_
  refine g_sld (pc' := 693) (v := xs (i + 1)) hX (sc_in (d := 1) rfl hi hL (by decide)) dL_law_692 rfl (congrArg xs (sc_cl (d := 1) rfl (by omega))) ?_
  refine g_aload_n (pc' := 694) dL_law_693 rfl rfl rfl ?_
  refine g_iload_n (pc' := 695) dL_law_694 rfl rfl rfl ?_
  refine g_iconst (pc' := 696) (v := 2) dL_law_695 rfl (by decide) ?_
  refine g_iadd (pc' := 697) dL_law_696 rfl ?_
  refine g_sld (pc' := 698) (v := xs (i + 2)) hX (sc_in (d := 2) rfl hi hL (by decide)) dL_law_697 rfl (congrArg xs (sc_cl (d := 2) rfl (by omega))) ?_
  refine g_callV (pc' := 701) (mx := mdX0_larder) (as := [.int (xs (i + 1)), .int (xs (i + 2))]) (wX0_larder g _ xa (xs (i + 1)) (xs (i + 2)) h1) oX0_larder ⟨Nat.le_of_ble_eq_true rfl, Nat.le_of_ble_eq_true rfl⟩ dL_law_698 rfl (ci := 0) rfl hxa ⟨by decide +kernel, by decide +kernel⟩ oX0_larder.2.2.2 rfl q712 q713 q714 q714 q713 (Nat.le_of_ble_eq_true rfl) (Nat.le_of_ble_eq_true rfl) (g_rI ?_) g_nt rfl
  rw [← h2]
  refine g_aload_n (pc' := 702) dL_law_701 rfl rfl rfl ?_
  refine g_aload_n (pc' := 703) dL_law_702 rfl rfl rfl ?_
  refine g_iload_n (pc' := 704) dL_law_703 rfl rfl rfl ?_
  refine g_iconst (pc' := 705) (v := 1) dL_law_704 rfl (by decide) ?_
  refine g_iadd (pc' := 706) dL_law_705 rfl ?_
  refine g_sld (pc' := 707) (v := xs (i + 1)) hX (sc_in (d := 1) rfl hi hL (by decide)) dL_law_706 rfl (congrArg xs (sc_cl (d := 1) rfl (by omega))) ?_
  refine g_aload_n (pc' := 708) dL_law_707 rfl rfl rfl ?_
  refine g_iload_n (pc' := 709) dL_law_708 rfl rfl rfl ?_
  refine g_iconst (pc' := 710) (v := 2) dL_law_709 rfl (by decide) ?_
  refine g_iadd (pc' := 711) dL_law_710 rfl ?_
  refine g_sld (pc' := 712) (v := xs (i + 2)) hX (sc_in (d := 2) rfl hi hL (by decide)) dL_law_711 rfl (congrArg xs (sc_cl (d := 2) rfl (by omega))) ?_
  refine g_callV (pc' := 715) (mx := mdX3_larder) (as := [.int (xs (i + 1)), .int (xs (i + 2))]) (wX3_larder g hA w1 M (xs (i + 1)) (xs (i + 2)) h3) oX3_larder ⟨Nat.le_of_ble_eq_true rfl, Nat.le_of_ble_eq_true rfl⟩ dL_law_712 rfl (ci := 3) rfl tC ⟨by decide +kernel, by decide +kernel⟩ oX3_larder.2.2.2 rfl q1322 q1323 q1324 q1324 q1323 (Nat.le_of_ble_eq_true rfl) (Nat.le_of_ble_eq_true rfl) (g_rI ?_) g_nt rfl
  refine g_icmp_eq (tgt := 1426) (pc' := 718) dL_law_715 (by decide) rfl (fun _ => kk) (fun h => absurd rfl h)
set_option maxHeartbeats 4000000 in
theorem lc16 {g : bGh} {A : tA} (hA : tO A) {n0 u0 : Nat} {Q : Outcome → bWl → Prop} {xa b Ln i : Nat} {xs : Nat → Int32} {w w1 : bWl} {M M' : tM} {r : Int32} (hX : scrAt g b Ln xs) (hi : i + 5 < Ln) (hL : Ln ≤ 384) (hxa : hC w xa = some 0) (h1 : fX0_empty w xa (xs (i + 1)) = some (r, w1)) (h2 : tW A M w1 = w1) (h3 : fX3_empty M (xs (i + 1)) = some (r, M')) (kk : bG (g, mdL, n0, u0, Q) (tW A M' w1) 1426 [some (.ref b), some (.ref xa), some (.ref A.1), some (.int (nI i))] []) : bG (g, mdL, n0, u0, Q) w 720 [some (.ref b), some (.ref xa), some (.ref A.1), some (.int (nI i))] [] := by
  refine g_aload_n (pc' := 721) dL_law_720 rfl rfl rfl ?_
  refine g_aload_n (pc' := 722) dL_law_721 rfl rfl rfl ?_
  refine g_iload_n (pc' := 723) dL_law_722 rfl rfl rfl ?_
  refine g_iconst (pc' := 724) (v := 1) dL_law_723 rfl (by decide) ?_
  refine g_iadd (pc' := 725) dL_law_724 rfl ?_
  refine g_sld (pc' := 726) (v := xs (i + 1)) hX (sc_in (d := 1) rfl hi hL (by decide)) dL_law_725 rfl (congrArg xs (sc_cl (d := 1) rfl (by omega))) ?_
  refine g_callV (pc' := 729) (mx := mdX0_empty) (as := [.int (xs (i + 1))]) (wX0_empty g _ xa (xs (i + 1)) h1) oX0_empty ⟨Nat.le_of_ble_eq_true rfl, Nat.le_of_ble_eq_true rfl⟩ dL_law_726 rfl (ci := 0) rfl hxa ⟨by decide +kernel, by decide +kernel⟩ oX0_empty.2.2.2 rfl q716 q717 q718 q718 q717 (Nat.le_of_ble_eq_true rfl) (Nat.le_of_ble_eq_true rfl) (g_rI ?_) g_nt rfl
  rw [← h2]
  refine g_aload_n (pc' := 730) dL_law_729 rfl rfl rfl ?_
  refine g_aload_n (pc' := 731) dL_law_730 rfl rfl rfl ?_
  refine g_iload_n (pc' := 732) dL_law_731 rfl rfl rfl ?_
  refine g_iconst (pc' := 733) (v := 1) dL_law_732 rfl (by decide) ?_
  refine g_iadd (pc' := 734) dL_law_733 rfl ?_
  refine g_sld (pc' := 735) (v := xs (i + 1)) hX (sc_in (d := 1) rfl hi hL (by decide)) dL_law_734 rfl (congrArg xs (sc_cl (d := 1) rfl (by omega))) ?_
  refine g_callV (pc' := 738) (mx := mdX3_empty) (as := [.int (xs (i + 1))]) (wX3_empty g hA w1 M (xs (i + 1)) h3) oX3_empty ⟨Nat.le_of_ble_eq_true rfl, Nat.le_of_ble_eq_true rfl⟩ dL_law_735 rfl (ci := 3) rfl tC ⟨by decide +kernel, by decide +kernel⟩ oX3_empty.2.2.2 rfl q1326 q1327 q1328 q1328 q1327 (Nat.le_of_ble_eq_true rfl) (Nat.le_of_ble_eq_true rfl) (g_rI ?_) g_nt rfl
  refine g_icmp_eq (tgt := 1426) (pc' := 741) dL_law_738 (by decide) rfl (fun _ => kk) (fun h => absurd rfl h)
set_option maxHeartbeats 4000000 in
theorem lc17 {g : bGh} {A : tA} (hA : tO A) {n0 u0 : Nat} {Q : Outcome → bWl → Prop} {xa b Ln i : Nat} {xs : Nat → Int32} {w w1 : bWl} {M M' : tM} {r : Int32} (hX : scrAt g b Ln xs) (hi : i + 5 < Ln) (hL : Ln ≤ 384) (hxa : hC w xa = some 0) (h1 : fX0_many w xa (xs (i + 1)) = some (r, w1)) (h2 : tW A M w1 = w1) (h3 : fX3_many M (xs (i + 1)) = some (r, M')) (kk : bG (g, mdL, n0, u0, Q) (tW A M' w1) 1426 [some (.ref b), some (.ref xa), some (.ref A.1), some (.int (nI i))] []) : bG (g, mdL, n0, u0, Q) w 743 [some (.ref b), some (.ref xa), some (.ref A.1), some (.int (nI i))] [] := by
  refine g_aload_n (pc' := 744) dL_law_743 rfl rfl rfl ?_
  refine g_aload_n (pc' := 745) dL_law_744 rfl rfl rfl ?_
  refine g_iload_n (pc' := 746) dL_law_745 rfl rfl rfl ?_
  refine g_iconst (pc' := 747) (v := 1) dL_law_746 rfl (by decide) ?_
  refine g_iadd (pc' := 748) dL_law_747 rfl ?_
  refine g_sld (pc' := 749) (v := xs (i + 1)) hX (sc_in (d := 1) rfl hi hL (by decide)) dL_law_748 rfl (congrArg xs (sc_cl (d := 1) rfl (by omega))) ?_
  refine g_callV (pc' := 752) (mx := mdX0_many) (as := [.int (xs (i + 1))]) (wX0_many g _ xa (xs (i + 1)) h1) oX0_many ⟨Nat.le_of_ble_eq_true rfl, Nat.le_of_ble_eq_true rfl⟩ dL_law_749 rfl (ci := 0) rfl hxa ⟨by decide +kernel, by decide +kernel⟩ oX0_many.2.2.2 rfl q721 q722 q723 q723 q722 (Nat.le_of_ble_eq_true rfl) (Nat.le_of_ble_eq_true rfl) (g_rI ?_) g_nt rfl
  rw [← h2]
  refine g_aload_n (pc' := 753) dL_law_752 rfl rfl rfl ?_
  refine g_aload_n (pc' := 754) dL_law_753 rfl rfl rfl ?_
  refine g_iload_n (pc' := 755) dL_law_754 rfl rfl rfl ?_
  refine g_iconst (pc' := 756) (v := 1) dL_law_755 rfl (by decide) ?_
  refine g_iadd (pc' := 757) dL_law_756 rfl ?_
  refine g_sld (pc' := 758) (v := xs (i + 1)) hX (sc_in (d := 1) rfl hi hL (by decide)) dL_law_757 rfl (congrArg xs (sc_cl (d := 1) rfl (by omega))) ?_
  refine g_callV (pc' := 761) (mx := mdX3_many) (as := [.int (xs (i + 1))]) (wX3_many g hA w1 M (xs (i + 1)) h3) oX3_many ⟨Nat.le_of_ble_eq_true rfl, Nat.le_of_ble_eq_true rfl⟩ dL_law_758 rfl (ci := 3) rfl tC ⟨by decide +kernel, by decide +kernel⟩ oX3_many.2.2.2 rfl q1335 q1336 q1337 q1337 q1336 (Nat.le_of_ble_eq_true rfl) (Nat.le_of_ble_eq_true rfl) (g_rI ?_) g_nt rfl
  refine g_icmp_eq (tgt := 1426) (pc' := 764) dL_law_761 (by decide) rfl (fun _ => kk) (fun h => absurd rfl h)
set_option maxHeartbeats 4000000 in
theorem lc18 {g : bGh} {A : tA} (hA : tO A) {n0 u0 : Nat} {Q : Outcome → bWl → Prop} {xa b Ln i : Nat} {xs : Nat → Int32} {w w1 : bWl} {M M' : tM} {r : Int32} (hX : scrAt g b Ln xs) (hi : i + 5 < Ln) (hL : Ln ≤ 384) (hxa : hC w xa = some 0) (h1 : fX0_out w xa (xs (i + 1)) = some (r, w1)) (h2 : tW A M w1 = w1) (h3 : fX3_out M (xs (i + 1)) = some (r, M')) (kk : bG (g, mdL, n0, u0, Q) (tW A M' w1) 1426 [some (.ref b), some (.ref xa), some (.ref A.1), some (.int (nI i))] []) : bG (g, mdL, n0, u0, Q) w 766 [some (.ref b), some (.ref xa), some (.ref A.1), some (.int (nI i))] [] := by
  refine g_aload_n (pc' := 767) dL_law_766 rfl rfl rfl ?_
  refine g_aload_n (pc' := 768) dL_law_767 rfl rfl rfl ?_
  refine g_iload_n (pc' := 769) dL_law_768 rfl rfl rfl ?_
  refine g_iconst (pc' := 770) (v := 1) dL_law_769 rfl (by decide) ?_
  refine g_iadd (pc' := 771) dL_law_770 rfl ?_
  refine g_sld (pc' := 772) (v := xs (i + 1)) hX (sc_in (d := 1) rfl hi hL (by decide)) dL_law_771 rfl (congrArg xs (sc_cl (d := 1) rfl (by omega))) ?_
  refine g_callV (pc' := 775) (mx := mdX0_out) (as := [.int (xs (i + 1))]) (wX0_out g _ xa (xs (i + 1)) h1) oX0_out ⟨Nat.le_of_ble_eq_true rfl, Nat.le_of_ble_eq_true rfl⟩ dL_law_772 rfl (ci := 0) rfl hxa ⟨by decide +kernel, by decide +kernel⟩ oX0_out.2.2.2 rfl q725 q726 q727 q727 q726 (Nat.le_of_ble_eq_true rfl) (Nat.le_of_ble_eq_true rfl) (g_rI ?_) g_nt rfl
  rw [← h2]
  refine g_aload_n (pc' := 776) dL_law_775 rfl rfl rfl ?_
  refine g_aload_n (pc' := 777) dL_law_776 rfl rfl rfl ?_
  refine g_iload_n (pc' := 778) dL_law_777 rfl rfl rfl ?_
  refine g_iconst (pc' := 779) (v := 1) dL_law_778 rfl (by decide) ?_
  refine g_iadd (pc' := 780) dL_law_779 rfl ?_
  refine g_sld (pc' := 781) (v := xs (i + 1)) hX (sc_in (d := 1) rfl hi hL (by decide)) dL_law_780 rfl (congrArg xs (sc_cl (d := 1) rfl (by omega))) ?_
  refine g_callV (pc' := 784) (mx := mdX3_out) (as := [.int (xs (i + 1))]) (wX3_out g hA w1 M (xs (i + 1)) h3) oX3_out ⟨Nat.le_of_ble_eq_true rfl, Nat.le_of_ble_eq_true rfl⟩ dL_law_781 rfl (ci := 3) rfl tC ⟨by decide +kernel, by decide +kernel⟩ oX3_out.2.2.2 rfl q1339 q1340 q1341 q1341 q1340 (Nat.le_of_ble_eq_true rfl) (Nat.le_of_ble_eq_true rfl) (g_rI ?_) g_nt rfl
  refine g_icmp_eq (tgt := 1426) (pc' := 787) dL_law_784 (by decide) rfl (fun _ => kk) (fun h => absurd rfl h)
set_option maxHeartbeats 4000000 in
theorem lc19 {g : bGh} {A : tA} (hA : tO A) {n0 u0 : Nat} {Q : Outcome → bWl → Prop} {xa b Ln i : Nat} {xs : Nat → Int32} {w w1 : bWl} {M M' : tM} {r : Int32} (hX : scrAt g b Ln xs) (hi : i + 5 < Ln) (hL : Ln ≤ 384) (hxa : hC w xa = some 0) (h1 : fX0_fewest w xa (xs (i + 1)) (xs (i + 2)) = some (r, w1)) (h2 : tW A M w1 = w1) (h3 : fX3_fewest M (xs (i + 1)) (xs (i + 2)) = some (r, M')) (kk : bG (g, mdL, n0, u0, Q) (tW A M' w1) 1426 [some (.ref b), some (.ref xa), some (.ref A.1), some (.int (nI i))] []) : bG (g, mdL, n0, u0, Q) w 789 [some (.ref b), some (.ref xa), some (.ref A.1), some (.int (nI i))] [] := by
  refine g_aload_n (pc' := 790) dL_law_789 rfl rfl rfl ?_
  refine g_aload_n (pc' := 791) dL_law_790 rfl rfl rfl ?_
  refine g_iload_n (pc' := 792) dL_law_791 rfl rfl rfl ?_
  refine g_iconst (pc' := 793) (v := 1) dL_law_792 rfl (by decide) ?_
  refine g_iadd (pc' := 794) dL_law_793 rfl ?_
  refine g_sld (pc' := 795) (v := xs (i + 1)) hX (sc_in (d := 1) rfl hi hL (by decide)) dL_law_794 rfl (congrArg xs (sc_cl (d := 1) rfl (by omega))) ?_
  refine g_aload_n (pc' := 796) dL_law_795 rfl rfl rfl ?_
  refine g_iload_n (pc' := 797) dL_law_796 rfl rfl rfl ?_
  refine g_iconst (pc' := 798) (v := 2) dL_law_797 rfl (by decide) ?_
  refine g_iadd (pc' := 799) dL_law_798 rfl ?_
  refine g_sld (pc' := 800) (v := xs (i + 2)) hX (sc_in (d := 2) rfl hi hL (by decide)) dL_law_799 rfl (congrArg xs (sc_cl (d := 2) rfl (by omega))) ?_
  refine g_callV (pc' := 803) (mx := mdX0_fewest) (as := [.int (xs (i + 1)), .int (xs (i + 2))]) (wX0_fewest g _ xa (xs (i + 1)) (xs (i + 2)) h1) oX0_fewest ⟨Nat.le_of_ble_eq_true rfl, Nat.le_of_ble_eq_true rfl⟩ dL_law_800 rfl (ci := 0) rfl hxa ⟨by decide +kernel, by decide +kernel⟩ oX0_fewest.2.2.2 rfl q729 q730 q731 q731 q730 (Nat.le_of_ble_eq_true rfl) (Nat.le_of_ble_eq_true rfl) (g_rI ?_) g_nt rfl
  rw [← h2]
  refine g_aload_n (pc' := 804) dL_law_803 rfl rfl rfl ?_
  refine g_aload_n (pc' := 805) dL_law_804 rfl rfl rfl ?_
  refine g_iload_n (pc' := 806) dL_law_805 rfl rfl rfl ?_
  refine g_iconst (pc' := 807) (v := 1) dL_law_806 rfl (by decide) ?_
  refine g_iadd (pc' := 808) dL_law_807 rfl ?_
  refine g_sld (pc' := 809) (v := xs (i + 1)) hX (sc_in (d := 1) rfl hi hL (by decide)) dL_law_808 rfl (congrArg xs (sc_cl (d := 1) rfl (by omega))) ?_
  refine g_aload_n (pc' := 810) dL_law_809 rfl rfl rfl ?_
  refine g_iload_n (pc' := 811) dL_law_810 rfl rfl rfl ?_
  refine g_iconst (pc' := 812) (v := 2) dL_law_811 rfl (by decide) ?_
  refine g_iadd (pc' := 813) dL_law_812 rfl ?_
  refine g_sld (pc' := 814) (v := xs (i + 2)) hX (sc_in (d := 2) rfl hi hL (by decide)) dL_law_813 rfl (congrArg xs (sc_cl (d := 2) rfl (by omega))) ?_
  refine g_callV (pc' := 817) (mx := mdX3_fewest) (as := [.int (xs (i + 1)), .int (xs (i + 2))]) (wX3_fewest g hA w1 M (xs (i + 1)) (xs (i + 2)) h3) oX3_fewest ⟨Nat.le_of_ble_eq_true rfl, Nat.le_of_ble_eq_true rfl⟩ dL_law_814 rfl (ci := 3) rfl tC ⟨by decide +kernel, by decide +kernel⟩ oX3_fewest.2.2.2 rfl q1343 q1344 q1345 q1345 q1344 (Nat.le_of_ble_eq_true rfl) (Nat.le_of_ble_eq_true rfl) (g_rI ?_) g_nt rfl
  refine g_icmp_eq (tgt := 1426) (pc' := 820) dL_law_817 (by decide) rfl (fun _ => kk) (fun h => absurd rfl h)
set_option maxHeartbeats 4000000 in
theorem lc20 {g : bGh} {A : tA} (hA : tO A) {n0 u0 : Nat} {Q : Outcome → bWl → Prop} {xa b Ln i : Nat} {xs : Nat → Int32} {w w1 : bWl} {M M' : tM} {r : Int32} (hX : scrAt g b Ln xs) (hi : i + 5 < Ln) (hL : Ln ≤ 384) (hxa : hC w xa = some 0) (h1 : fX0_least w xa (xs (i + 1)) = some (r, w1)) (h2 : tW A M w1 = w1) (h3 : fX3_least M (xs (i + 1)) = some (r, M')) (kk : bG (g, mdL, n0, u0, Q) (tW A M' w1) 1426 [some (.ref b), some (.ref xa), some (.ref A.1), some (.int (nI i))] []) : bG (g, mdL, n0, u0, Q) w 822 [some (.ref b), some (.ref xa), some (.ref A.1), some (.int (nI i))] [] := by
  refine g_aload_n (pc' := 823) dL_law_822 rfl rfl rfl ?_
  refine g_aload_n (pc' := 824) dL_law_823 rfl rfl rfl ?_
  refine g_iload_n (pc' := 825) dL_law_824 rfl rfl rfl ?_
  refine g_iconst (pc' := 826) (v := 1) dL_law_825 rfl (by decide) ?_
  refine g_iadd (pc' := 827) dL_law_826 rfl ?_
  refine g_sld (pc' := 828) (v := xs (i + 1)) hX (sc_in (d := 1) rfl hi hL (by decide)) dL_law_827 rfl (congrArg xs (sc_cl (d := 1) rfl (by omega))) ?_
  refine g_callV (pc' := 831) (mx := mdX0_least) (as := [.int (xs (i + 1))]) (wX0_least g _ xa (xs (i + 1)) h1) oX0_least ⟨Nat.le_of_ble_eq_true rfl, Nat.le_of_ble_eq_true rfl⟩ dL_law_828 rfl (ci := 0) rfl hxa ⟨by decide +kernel, by decide +kernel⟩ oX0_least.2.2.2 rfl q733 q734 q735 q735 q734 (Nat.le_of_ble_eq_true rfl) (Nat.le_of_ble_eq_true rfl) (g_rI ?_) g_nt rfl
  rw [← h2]
  refine g_aload_n (pc' := 832) dL_law_831 rfl rfl rfl ?_
  refine g_aload_n (pc' := 833) dL_law_832 rfl rfl rfl ?_
  refine g_iload_n (pc' := 834) dL_law_833 rfl rfl rfl ?_
  refine g_iconst (pc' := 835) (v := 1) dL_law_834 rfl (by decide) ?_
  refine g_iadd (pc' := 836) dL_law_835 rfl ?_
  refine g_sld (pc' := 837) (v := xs (i + 1)) hX (sc_in (d := 1) rfl hi hL (by decide)) dL_law_836 rfl (congrArg xs (sc_cl (d := 1) rfl (by omega))) ?_
  refine g_callV (pc' := 840) (mx := mdX3_least) (as := [.int (xs (i + 1))]) (wX3_least g hA w1 M (xs (i + 1)) h3) oX3_least ⟨Nat.le_of_ble_eq_true rfl, Nat.le_of_ble_eq_true rfl⟩ dL_law_837 rfl (ci := 3) rfl tC ⟨by decide +kernel, by decide +kernel⟩ oX3_least.2.2.2 rfl q1351 q1352 q1353 q1353 q1352 (Nat.le_of_ble_eq_true rfl) (Nat.le_of_ble_eq_true rfl) (g_rI ?_) g_nt rfl
  refine g_icmp_eq (tgt := 1426) (pc' := 843) dL_law_840 (by decide) rfl (fun _ => kk) (fun h => absurd rfl h)
set_option maxHeartbeats 4000000 in
theorem lc21 {g : bGh} {A : tA} (hA : tO A) {n0 u0 : Nat} {Q : Outcome → bWl → Prop} {xa b Ln i : Nat} {xs : Nat → Int32} {w w1 : bWl} {M M' : tM} {r : Int32} (hX : scrAt g b Ln xs) (hi : i + 5 < Ln) (hL : Ln ≤ 384) (hxa : hC w xa = some 0) (h1 : fX0_best w xa (xs (i + 1)) = some (r, w1)) (h2 : tW A M w1 = w1) (h3 : fX3_best M (xs (i + 1)) = some (r, M')) (kk : bG (g, mdL, n0, u0, Q) (tW A M' w1) 1426 [some (.ref b), some (.ref xa), some (.ref A.1), some (.int (nI i))] []) : bG (g, mdL, n0, u0, Q) w 845 [some (.ref b), some (.ref xa), some (.ref A.1), some (.int (nI i))] [] := by
  refine g_aload_n (pc' := 846) dL_law_845 rfl rfl rfl ?_
  refine g_aload_n (pc' := 847) dL_law_846 rfl rfl rfl ?_
  refine g_iload_n (pc' := 848) dL_law_847 rfl rfl rfl ?_
  refine g_iconst (pc' := 849) (v := 1) dL_law_848 rfl (by decide) ?_
  refine g_iadd (pc' := 850) dL_law_849 rfl ?_
  refine g_sld (pc' := 851) (v := xs (i + 1)) hX (sc_in (d := 1) rfl hi hL (by decide)) dL_law_850 rfl (congrArg xs (sc_cl (d := 1) rfl (by omega))) ?_
  refine g_callV (pc' := 854) (mx := mdX0_best) (as := [.int (xs (i + 1))]) (wX0_best g _ xa (xs (i + 1)) h1) oX0_best ⟨Nat.le_of_ble_eq_true rfl, Nat.le_of_ble_eq_true rfl⟩ dL_law_851 rfl (ci := 0) rfl hxa ⟨by decide +kernel, by decide +kernel⟩ oX0_best.2.2.2 rfl q737 q738 q739 q739 q738 (Nat.le_of_ble_eq_true rfl) (Nat.le_of_ble_eq_true rfl) (g_rI ?_) g_nt rfl
  rw [← h2]
  refine g_aload_n (pc' := 855) dL_law_854 rfl rfl rfl ?_
  refine g_aload_n (pc' := 856) dL_law_855 rfl rfl rfl ?_
  refine g_iload_n (pc' := 857) dL_law_856 rfl rfl rfl ?_
  refine g_iconst (pc' := 858) (v := 1) dL_law_857 rfl (by decide) ?_
  refine g_iadd (pc' := 859) dL_law_858 rfl ?_
  refine g_sld (pc' := 860) (v := xs (i + 1)) hX (sc_in (d := 1) rfl hi hL (by decide)) dL_law_859 rfl (congrArg xs (sc_cl (d := 1) rfl (by omega))) ?_
  refine g_callV (pc' := 863) (mx := mdX3_best) (as := [.int (xs (i + 1))]) (wX3_best g hA w1 M (xs (i + 1)) h3) oX3_best ⟨Nat.le_of_ble_eq_true rfl, Nat.le_of_ble_eq_true rfl⟩ dL_law_860 rfl (ci := 3) rfl tC ⟨by decide +kernel, by decide +kernel⟩ oX3_best.2.2.2 rfl q1355 q1356 q1357 q1357 q1356 (Nat.le_of_ble_eq_true rfl) (Nat.le_of_ble_eq_true rfl) (g_rI ?_) g_nt rfl
  refine g_icmp_eq (tgt := 1426) (pc' := 866) dL_law_863 (by decide) rfl (fun _ => kk) (fun h => absurd rfl h)
set_option maxHeartbeats 4000000 in
theorem lc22 {g : bGh} {A : tA} (hA : tO A) {n0 u0 : Nat} {Q : Outcome → bWl → Prop} {xa b Ln i : Nat} {xs : Nat → Int32} {w w1 : bWl} {M M' : tM} {r : Int32} (hX : scrAt g b Ln xs) (hi : i + 5 < Ln) (hL : Ln ≤ 384) (hxa : hC w xa = some 0) (h1 : fX0_lean w xa (xs (i + 1)) (xs (i + 2)) = some (r, w1)) (h2 : tW A M w1 = w1) (h3 : fX3_lean M (xs (i + 1)) (xs (i + 2)) = some (r, M')) (kk : bG (g, mdL, n0, u0, Q) (tW A M' w1) 1426 [some (.ref b), some (.ref xa), some (.ref A.1), some (.int (nI i))] []) : bG (g, mdL, n0, u0, Q) w 868 [some (.ref b), some (.ref xa), some (.ref A.1), some (.int (nI i))] [] := by
  refine g_aload_n (pc' := 869) dL_law_868 rfl rfl rfl ?_
  refine g_aload_n (pc' := 870) dL_law_869 rfl rfl rfl ?_
  refine g_iload_n (pc' := 871) dL_law_870 rfl rfl rfl ?_
  refine g_iconst (pc' := 872) (v := 1) dL_law_871 rfl (by decide) ?_
  refine g_iadd (pc' := 873) dL_law_872 rfl ?_
  refine g_sld (pc' := 874) (v := xs (i + 1)) hX (sc_in (d := 1) rfl hi hL (by decide)) dL_law_873 rfl (congrArg xs (sc_cl (d := 1) rfl (by omega))) ?_
  refine g_aload_n (pc' := 875) dL_law_874 rfl rfl rfl ?_
  refine g_iload_n (pc' := 876) dL_law_875 rfl rfl rfl ?_
  refine g_iconst (pc' := 877) (v := 2) dL_law_876 rfl (by decide) ?_
  refine g_iadd (pc' := 878) dL_law_877 rfl ?_
  refine g_sld (pc' := 879) (v := xs (i + 2)) hX (sc_in (d := 2) rfl hi hL (by decide)) dL_law_878 rfl (congrArg xs (sc_cl (d := 2) rfl (by omega))) ?_
  refine g_callV (pc' := 882) (mx := mdX0_lean) (as := [.int (xs (i + 1)), .int (xs (i + 2))]) (wX0_lean g _ xa (xs (i + 1)) (xs (i + 2)) h1) oX0_lean ⟨Nat.le_of_ble_eq_true rfl, Nat.le_of_ble_eq_true rfl⟩ dL_law_879 rfl (ci := 0) rfl hxa ⟨by decide +kernel, by decide +kernel⟩ oX0_lean.2.2.2 rfl q744 q745 q746 q746 q745 (Nat.le_of_ble_eq_true rfl) (Nat.le_of_ble_eq_true rfl) (g_rI ?_) g_nt rfl
  rw [← h2]
  refine g_aload_n (pc' := 883) dL_law_882 rfl rfl rfl ?_
  refine g_aload_n (pc' := 884) dL_law_883 rfl rfl rfl ?_
  refine g_iload_n (pc' := 885) dL_law_884 rfl rfl rfl ?_
  refine g_iconst (pc' := 886) (v := 1) dL_law_885 rfl (by decide) ?_
  refine g_iadd (pc' := 887) dL_law_886 rfl ?_
  refine g_sld (pc' := 888) (v := xs (i + 1)) hX (sc_in (d := 1) rfl hi hL (by decide)) dL_law_887 rfl (congrArg xs (sc_cl (d := 1) rfl (by omega))) ?_
  refine g_aload_n (pc' := 889) dL_law_888 rfl rfl rfl ?_
  refine g_iload_n (pc' := 890) dL_law_889 rfl rfl rfl ?_
  refine g_iconst (pc' := 891) (v := 2) dL_law_890 rfl (by decide) ?_
  refine g_iadd (pc' := 892) dL_law_891 rfl ?_
  refine g_sld (pc' := 893) (v := xs (i + 2)) hX (sc_in (d := 2) rfl hi hL (by decide)) dL_law_892 rfl (congrArg xs (sc_cl (d := 2) rfl (by omega))) ?_
  refine g_callV (pc' := 896) (mx := mdX3_lean) (as := [.int (xs (i + 1)), .int (xs (i + 2))]) (wX3_lean g hA w1 M (xs (i + 1)) (xs (i + 2)) h3) oX3_lean ⟨Nat.le_of_ble_eq_true rfl, Nat.le_of_ble_eq_true rfl⟩ dL_law_893 rfl (ci := 3) rfl tC ⟨by decide +kernel, by decide +kernel⟩ oX3_lean.2.2.2 rfl q1362 q1363 q1364 q1364 q1363 (Nat.le_of_ble_eq_true rfl) (Nat.le_of_ble_eq_true rfl) (g_rI ?_) g_nt rfl
  refine g_icmp_eq (tgt := 1426) (pc' := 899) dL_law_896 (by decide) rfl (fun _ => kk) (fun h => absurd rfl h)
set_option maxHeartbeats 4000000 in
theorem lc23 {g : bGh} {A : tA} (hA : tO A) {n0 u0 : Nat} {Q : Outcome → bWl → Prop} {xa b Ln i : Nat} {xs : Nat → Int32} {w w1 : bWl} {M M' : tM} {r : Int32} (hX : scrAt g b Ln xs) (hi : i + 5 < Ln) (hL : Ln ≤ 384) (hxa : hC w xa = some 0) (h1 : fX0_leanFor w xa (xs (i + 1)) (xs (i + 2)) = some (r, w1)) (h2 : tW A M w1 = w1) (h3 : fX3_leanFor M (xs (i + 1)) (xs (i + 2)) = some (r, M')) (kk : bG (g, mdL, n0, u0, Q) (tW A M' w1) 1426 [some (.ref b), some (.ref xa), some (.ref A.1), some (.int (nI i))] []) : bG (g, mdL, n0, u0, Q) w 901 [some (.ref b), some (.ref xa), some (.ref A.1), some (.int (nI i))] [] := by
  refine g_aload_n (pc' := 902) dL_law_901 rfl rfl rfl ?_
  refine g_aload_n (pc' := 903) dL_law_902 rfl rfl rfl ?_
  refine g_iload_n (pc' := 904) dL_law_903 rfl rfl rfl ?_
  refine g_iconst (pc' := 905) (v := 1) dL_law_904 rfl (by decide) ?_
  refine g_iadd (pc' := 906) dL_law_905 rfl ?_
  refine g_sld (pc' := 907) (v := xs (i + 1)) hX (sc_in (d := 1) rfl hi hL (by decide)) dL_law_906 rfl (congrArg xs (sc_cl (d := 1) rfl (by omega))) ?_
  refine g_aload_n (pc' := 908) dL_law_907 rfl rfl rfl ?_
  refine g_iload_n (pc' := 909) dL_law_908 rfl rfl rfl ?_
  refine g_iconst (pc' := 910) (v := 2) dL_law_909 rfl (by decide) ?_
  refine g_iadd (pc' := 911) dL_law_910 rfl ?_
  refine g_sld (pc' := 912) (v := xs (i + 2)) hX (sc_in (d := 2) rfl hi hL (by decide)) dL_law_911 rfl (congrArg xs (sc_cl (d := 2) rfl (by omega))) ?_
  refine g_callV (pc' := 915) (mx := mdX0_leanFor) (as := [.int (xs (i + 1)), .int (xs (i + 2))]) (wX0_leanFor g _ xa (xs (i + 1)) (xs (i + 2)) h1) oX0_leanFor ⟨Nat.le_of_ble_eq_true rfl, Nat.le_of_ble_eq_true rfl⟩ dL_law_912 rfl (ci := 0) rfl hxa ⟨by decide +kernel, by decide +kernel⟩ oX0_leanFor.2.2.2 rfl q749 q750 q751 q751 q750 (Nat.le_of_ble_eq_true rfl) (Nat.le_of_ble_eq_true rfl) (g_rI ?_) g_nt rfl
  rw [← h2]
  refine g_aload_n (pc' := 916) dL_law_915 rfl rfl rfl ?_
  refine g_aload_n (pc' := 917) dL_law_916 rfl rfl rfl ?_
  refine g_iload_n (pc' := 918) dL_law_917 rfl rfl rfl ?_
  refine g_iconst (pc' := 919) (v := 1) dL_law_918 rfl (by decide) ?_
  refine g_iadd (pc' := 920) dL_law_919 rfl ?_
  refine g_sld (pc' := 921) (v := xs (i + 1)) hX (sc_in (d := 1) rfl hi hL (by decide)) dL_law_920 rfl (congrArg xs (sc_cl (d := 1) rfl (by omega))) ?_
  refine g_aload_n (pc' := 922) dL_law_921 rfl rfl rfl ?_
  refine g_iload_n (pc' := 923) dL_law_922 rfl rfl rfl ?_
  refine g_iconst (pc' := 924) (v := 2) dL_law_923 rfl (by decide) ?_
  refine g_iadd (pc' := 925) dL_law_924 rfl ?_
  refine g_sld (pc' := 926) (v := xs (i + 2)) hX (sc_in (d := 2) rfl hi hL (by decide)) dL_law_925 rfl (congrArg xs (sc_cl (d := 2) rfl (by omega))) ?_
  refine g_callV (pc' := 929) (mx := mdX3_leanFor) (as := [.int (xs (i + 1)), .int (xs (i + 2))]) (wX3_leanFor g hA w1 M (xs (i + 1)) (xs (i + 2)) h3) oX3_leanFor ⟨Nat.le_of_ble_eq_true rfl, Nat.le_of_ble_eq_true rfl⟩ dL_law_926 rfl (ci := 3) rfl tC ⟨by decide +kernel, by decide +kernel⟩ oX3_leanFor.2.2.2 rfl q1366 q1367 q1368 q1368 q1367 (Nat.le_of_ble_eq_true rfl) (Nat.le_of_ble_eq_true rfl) (g_rI ?_) g_nt rfl
  refine g_icmp_eq (tgt := 1426) (pc' := 932) dL_law_929 (by decide) rfl (fun _ => kk) (fun h => absurd rfl h)
set_option maxHeartbeats 4000000 in
theorem lc24 {g : bGh} {A : tA} (hA : tO A) {n0 u0 : Nat} {Q : Outcome → bWl → Prop} {xa b Ln i : Nat} {xs : Nat → Int32} {w w1 : bWl} {M M' : tM} {r : Int32} (hX : scrAt g b Ln xs) (hi : i + 5 < Ln) (hL : Ln ≤ 384) (hxa : hC w xa = some 0) (h1 : fX0_kind w xa (xs (i + 1)) = some (r, w1)) (h2 : tW A M w1 = w1) (h3 : fX3_kind M (xs (i + 1)) = some (r, M')) (kk : bG (g, mdL, n0, u0, Q) (tW A M' w1) 1426 [some (.ref b), some (.ref xa), some (.ref A.1), some (.int (nI i))] []) : bG (g, mdL, n0, u0, Q) w 934 [some (.ref b), some (.ref xa), some (.ref A.1), some (.int (nI i))] [] := by
  refine g_aload_n (pc' := 935) dL_law_934 rfl rfl rfl ?_
  refine g_aload_n (pc' := 936) dL_law_935 rfl rfl rfl ?_
  refine g_iload_n (pc' := 937) dL_law_936 rfl rfl rfl ?_
  refine g_iconst (pc' := 938) (v := 1) dL_law_937 rfl (by decide) ?_
  refine g_iadd (pc' := 939) dL_law_938 rfl ?_
  refine g_sld (pc' := 940) (v := xs (i + 1)) hX (sc_in (d := 1) rfl hi hL (by decide)) dL_law_939 rfl (congrArg xs (sc_cl (d := 1) rfl (by omega))) ?_
  refine g_callV (pc' := 943) (mx := mdX0_kind) (as := [.int (xs (i + 1))]) (wX0_kind g _ xa (xs (i + 1)) h1) oX0_kind ⟨Nat.le_of_ble_eq_true rfl, Nat.le_of_ble_eq_true rfl⟩ dL_law_940 rfl (ci := 0) rfl hxa ⟨by decide +kernel, by decide +kernel⟩ oX0_kind.2.2.2 rfl q753 q754 q755 q755 q754 (Nat.le_of_ble_eq_true rfl) (Nat.le_of_ble_eq_true rfl) (g_rI ?_) g_nt rfl
  rw [← h2]
  refine g_aload_n (pc' := 944) dL_law_943 rfl rfl rfl ?_
  refine g_aload_n (pc' := 945) dL_law_944 rfl rfl rfl ?_
  refine g_iload_n (pc' := 946) dL_law_945 rfl rfl rfl ?_
  refine g_iconst (pc' := 947) (v := 1) dL_law_946 rfl (by decide) ?_
  refine g_iadd (pc' := 948) dL_law_947 rfl ?_
  refine g_sld (pc' := 949) (v := xs (i + 1)) hX (sc_in (d := 1) rfl hi hL (by decide)) dL_law_948 rfl (congrArg xs (sc_cl (d := 1) rfl (by omega))) ?_
  refine g_callV (pc' := 952) (mx := mdX3_kind) (as := [.int (xs (i + 1))]) (wX3_kind g hA w1 M (xs (i + 1)) h3) oX3_kind ⟨Nat.le_of_ble_eq_true rfl, Nat.le_of_ble_eq_true rfl⟩ dL_law_949 rfl (ci := 3) rfl tC ⟨by decide +kernel, by decide +kernel⟩ oX3_kind.2.2.2 rfl q1370 q1371 q1372 q1372 q1371 (Nat.le_of_ble_eq_true rfl) (Nat.le_of_ble_eq_true rfl) (g_rI ?_) g_nt rfl
  refine g_icmp_eq (tgt := 1426) (pc' := 955) dL_law_952 (by decide) rfl (fun _ => kk) (fun h => absurd rfl h)
set_option maxHeartbeats 4000000 in
theorem lc25 {g : bGh} {A : tA} (hA : tO A) {n0 u0 : Nat} {Q : Outcome → bWl → Prop} {xa b Ln i : Nat} {xs : Nat → Int32} {w w1 : bWl} {M M' : tM} {r : Int32} (hX : scrAt g b Ln xs) (hi : i + 5 < Ln) (hL : Ln ≤ 384) (hxa : hC w xa = some 0) (h1 : fX0_host w xa (xs (i + 1)) = some (r, w1)) (h2 : tW A M w1 = w1) (h3 : fX3_host M (xs (i + 1)) = some (r, M')) (kk : bG (g, mdL, n0, u0, Q) (tW A M' w1) 1426 [some (.ref b), some (.ref xa), some (.ref A.1), some (.int (nI i))] []) : bG (g, mdL, n0, u0, Q) w 957 [some (.ref b), some (.ref xa), some (.ref A.1), some (.int (nI i))] [] := by
  refine g_aload_n (pc' := 958) dL_law_957 rfl rfl rfl ?_
  refine g_aload_n (pc' := 959) dL_law_958 rfl rfl rfl ?_
  refine g_iload_n (pc' := 960) dL_law_959 rfl rfl rfl ?_
  refine g_iconst (pc' := 961) (v := 1) dL_law_960 rfl (by decide) ?_
  refine g_iadd (pc' := 962) dL_law_961 rfl ?_
  refine g_sld (pc' := 963) (v := xs (i + 1)) hX (sc_in (d := 1) rfl hi hL (by decide)) dL_law_962 rfl (congrArg xs (sc_cl (d := 1) rfl (by omega))) ?_
  refine g_callV (pc' := 966) (mx := mdX0_host) (as := [.int (xs (i + 1))]) (wX0_host g _ xa (xs (i + 1)) h1) oX0_host ⟨Nat.le_of_ble_eq_true rfl, Nat.le_of_ble_eq_true rfl⟩ dL_law_963 rfl (ci := 0) rfl hxa ⟨by decide +kernel, by decide +kernel⟩ oX0_host.2.2.2 rfl q757 q758 q759 q759 q758 (Nat.le_of_ble_eq_true rfl) (Nat.le_of_ble_eq_true rfl) (g_rI ?_) g_nt rfl
  rw [← h2]
  refine g_aload_n (pc' := 967) dL_law_966 rfl rfl rfl ?_
  refine g_aload_n (pc' := 968) dL_law_967 rfl rfl rfl ?_
  refine g_iload_n (pc' := 969) dL_law_968 rfl rfl rfl ?_
  refine g_iconst (pc' := 970) (v := 1) dL_law_969 rfl (by decide) ?_
  refine g_iadd (pc' := 971) dL_law_970 rfl ?_
  refine g_sld (pc' := 972) (v := xs (i + 1)) hX (sc_in (d := 1) rfl hi hL (by decide)) dL_law_971 rfl (congrArg xs (sc_cl (d := 1) rfl (by omega))) ?_
  refine g_callV (pc' := 975) (mx := mdX3_host) (as := [.int (xs (i + 1))]) (wX3_host g hA w1 M (xs (i + 1)) h3) oX3_host ⟨Nat.le_of_ble_eq_true rfl, Nat.le_of_ble_eq_true rfl⟩ dL_law_972 rfl (ci := 3) rfl tC ⟨by decide +kernel, by decide +kernel⟩ oX3_host.2.2.2 rfl q1374 q1375 q1376 q1376 q1375 (Nat.le_of_ble_eq_true rfl) (Nat.le_of_ble_eq_true rfl) (g_rI ?_) g_nt rfl
  refine g_icmp_eq (tgt := 1426) (pc' := 978) dL_law_975 (by decide) rfl (fun _ => kk) (fun h => absurd rfl h)
set_option maxHeartbeats 4000000 in
theorem lc26 {g : bGh} {A : tA} (hA : tO A) {n0 u0 : Nat} {Q : Outcome → bWl → Prop} {xa b Ln i : Nat} {xs : Nat → Int32} {w w1 : bWl} {M M' : tM} {r : Int32} (hX : scrAt g b Ln xs) (hi : i + 5 < Ln) (hL : Ln ≤ 384) (hxa : hC w xa = some 0) (h1 : fX0_beds w xa (xs (i + 1)) (xs (i + 2)) = some (r, w1)) (h2 : tW A M w1 = w1) (h3 : fX3_beds M (xs (i + 1)) (xs (i + 2)) = some (r, M')) (kk : bG (g, mdL, n0, u0, Q) (tW A M' w1) 1426 [some (.ref b), some (.ref xa), some (.ref A.1), some (.int (nI i))] []) : bG (g, mdL, n0, u0, Q) w 980 [some (.ref b), some (.ref xa), some (.ref A.1), some (.int (nI i))] [] := by
  refine g_aload_n (pc' := 981) dL_law_980 rfl rfl rfl ?_
  refine g_aload_n (pc' := 982) dL_law_981 rfl rfl rfl ?_
  refine g_iload_n (pc' := 983) dL_law_982 rfl rfl rfl ?_
  refine g_iconst (pc' := 984) (v := 1) dL_law_983 rfl (by decide) ?_
  refine g_iadd (pc' := 985) dL_law_984 rfl ?_
  refine g_sld (pc' := 986) (v := xs (i + 1)) hX (sc_in (d := 1) rfl hi hL (by decide)) dL_law_985 rfl (congrArg xs (sc_cl (d := 1) rfl (by omega))) ?_
  refine g_aload_n (pc' := 987) dL_law_986 rfl rfl rfl ?_
  refine g_iload_n (pc' := 988) dL_law_987 rfl rfl rfl ?_
  refine g_iconst (pc' := 989) (v := 2) dL_law_988 rfl (by decide) ?_
  refine g_iadd (pc' := 990) dL_law_989 rfl ?_
  refine g_sld (pc' := 991) (v := xs (i + 2)) hX (sc_in (d := 2) rfl hi hL (by decide)) dL_law_990 rfl (congrArg xs (sc_cl (d := 2) rfl (by omega))) ?_
  refine g_callV (pc' := 994) (mx := mdX0_beds) (as := [.int (xs (i + 1)), .int (xs (i + 2))]) (wX0_beds g _ xa (xs (i + 1)) (xs (i + 2)) h1) oX0_beds ⟨Nat.le_of_ble_eq_true rfl, Nat.le_of_ble_eq_true rfl⟩ dL_law_991 rfl (ci := 0) rfl hxa ⟨by decide +kernel, by decide +kernel⟩ oX0_beds.2.2.2 rfl q765 q766 q767 q767 q766 (Nat.le_of_ble_eq_true rfl) (Nat.le_of_ble_eq_true rfl) (g_rI ?_) g_nt rfl
  rw [← h2]
  refine g_aload_n (pc' := 995) dL_law_994 rfl rfl rfl ?_
  refine g_aload_n (pc' := 996) dL_law_995 rfl rfl rfl ?_
  refine g_iload_n (pc' := 997) dL_law_996 rfl rfl rfl ?_
  refine g_iconst (pc' := 998) (v := 1) dL_law_997 rfl (by decide) ?_
  refine g_iadd (pc' := 999) dL_law_998 rfl ?_
  refine g_sld (pc' := 1000) (v := xs (i + 1)) hX (sc_in (d := 1) rfl hi hL (by decide)) dL_law_999 rfl (congrArg xs (sc_cl (d := 1) rfl (by omega))) ?_
  refine g_aload_n (pc' := 1001) dL_law_1000 rfl rfl rfl ?_
  refine g_iload_n (pc' := 1002) dL_law_1001 rfl rfl rfl ?_
  refine g_iconst (pc' := 1003) (v := 2) dL_law_1002 rfl (by decide) ?_
  refine g_iadd (pc' := 1004) dL_law_1003 rfl ?_
  refine g_sld (pc' := 1005) (v := xs (i + 2)) hX (sc_in (d := 2) rfl hi hL (by decide)) dL_law_1004 rfl (congrArg xs (sc_cl (d := 2) rfl (by omega))) ?_
  refine g_callV (pc' := 1008) (mx := mdX3_beds) (as := [.int (xs (i + 1)), .int (xs (i + 2))]) (wX3_beds g hA w1 M (xs (i + 1)) (xs (i + 2)) h3) oX3_beds ⟨Nat.le_of_ble_eq_true rfl, Nat.le_of_ble_eq_true rfl⟩ dL_law_1005 rfl (ci := 3) rfl tC ⟨by decide +kernel, by decide +kernel⟩ oX3_beds.2.2.2 rfl q1378 q1379 q1380 q1380 q1379 (Nat.le_of_ble_eq_true rfl) (Nat.le_of_ble_eq_true rfl) (g_rI ?_) g_nt rfl
  refine g_icmp_eq (tgt := 1426) (pc' := 1011) dL_law_1008 (by decide) rfl (fun _ => kk) (fun h => absurd rfl h)
set_option maxHeartbeats 4000000 in
theorem lc27 {g : bGh} {A : tA} (hA : tO A) {n0 u0 : Nat} {Q : Outcome → bWl → Prop} {xa b Ln i : Nat} {xs : Nat → Int32} {w w1 : bWl} {M M' : tM} {r : Int32} (hX : scrAt g b Ln xs) (hi : i + 5 < Ln) (hL : Ln ≤ 384) (hxa : hC w xa = some 0) (h1 : fX0_feed w xa (xs (i + 1)) (xs (i + 2)) = some (r, w1)) (h2 : tW A M w1 = w1) (h3 : fX3_feed M (xs (i + 1)) (xs (i + 2)) = some (r, M')) (kk : bG (g, mdL, n0, u0, Q) (tW A M' w1) 1426 [some (.ref b), some (.ref xa), some (.ref A.1), some (.int (nI i))] []) : bG (g, mdL, n0, u0, Q) w 1013 [some (.ref b), some (.ref xa), some (.ref A.1), some (.int (nI i))] [] := by
  refine g_aload_n (pc' := 1014) dL_law_1013 rfl rfl rfl ?_
  refine g_aload_n (pc' := 1015) dL_law_1014 rfl rfl rfl ?_
  refine g_iload_n (pc' := 1016) dL_law_1015 rfl rfl rfl ?_
  refine g_iconst (pc' := 1017) (v := 1) dL_law_1016 rfl (by decide) ?_
  refine g_iadd (pc' := 1018) dL_law_1017 rfl ?_
  refine g_sld (pc' := 1019) (v := xs (i + 1)) hX (sc_in (d := 1) rfl hi hL (by decide)) dL_law_1018 rfl (congrArg xs (sc_cl (d := 1) rfl (by omega))) ?_
  refine g_aload_n (pc' := 1020) dL_law_1019 rfl rfl rfl ?_
  refine g_iload_n (pc' := 1021) dL_law_1020 rfl rfl rfl ?_
  refine g_iconst (pc' := 1022) (v := 2) dL_law_1021 rfl (by decide) ?_
  refine g_iadd (pc' := 1023) dL_law_1022 rfl ?_
  refine g_sld (pc' := 1024) (v := xs (i + 2)) hX (sc_in (d := 2) rfl hi hL (by decide)) dL_law_1023 rfl (congrArg xs (sc_cl (d := 2) rfl (by omega))) ?_
  refine g_callV (pc' := 1027) (mx := mdX0_feed) (as := [.int (xs (i + 1)), .int (xs (i + 2))]) (wX0_feed g _ xa (xs (i + 1)) (xs (i + 2)) h1) oX0_feed ⟨Nat.le_of_ble_eq_true rfl, Nat.le_of_ble_eq_true rfl⟩ dL_law_1024 rfl (ci := 0) rfl hxa ⟨by decide +kernel, by decide +kernel⟩ oX0_feed.2.2.2 rfl q769 q770 q771 q771 q770 (Nat.le_of_ble_eq_true rfl) (Nat.le_of_ble_eq_true rfl) (g_rI ?_) g_nt rfl
  rw [← h2]
  refine g_aload_n (pc' := 1028) dL_law_1027 rfl rfl rfl ?_
  refine g_aload_n (pc' := 1029) dL_law_1028 rfl rfl rfl ?_
  refine g_iload_n (pc' := 1030) dL_law_1029 rfl rfl rfl ?_
  refine g_iconst (pc' := 1031) (v := 1) dL_law_1030 rfl (by decide) ?_
  refine g_iadd (pc' := 1032) dL_law_1031 rfl ?_
  refine g_sld (pc' := 1033) (v := xs (i + 1)) hX (sc_in (d := 1) rfl hi hL (by decide)) dL_law_1032 rfl (congrArg xs (sc_cl (d := 1) rfl (by omega))) ?_
  refine g_aload_n (pc' := 1034) dL_law_1033 rfl rfl rfl ?_
  refine g_iload_n (pc' := 1035) dL_law_1034 rfl rfl rfl ?_
  refine g_iconst (pc' := 1036) (v := 2) dL_law_1035 rfl (by decide) ?_
  refine g_iadd (pc' := 1037) dL_law_1036 rfl ?_
  refine g_sld (pc' := 1038) (v := xs (i + 2)) hX (sc_in (d := 2) rfl hi hL (by decide)) dL_law_1037 rfl (congrArg xs (sc_cl (d := 2) rfl (by omega))) ?_
  refine g_callV (pc' := 1041) (mx := mdX3_feed) (as := [.int (xs (i + 1)), .int (xs (i + 2))]) (wX3_feed g hA w1 M (xs (i + 1)) (xs (i + 2)) h3) oX3_feed ⟨Nat.le_of_ble_eq_true rfl, Nat.le_of_ble_eq_true rfl⟩ dL_law_1038 rfl (ci := 3) rfl tC ⟨by decide +kernel, by decide +kernel⟩ oX3_feed.2.2.2 rfl q1382 q1383 q1384 q1384 q1383 (Nat.le_of_ble_eq_true rfl) (Nat.le_of_ble_eq_true rfl) (g_rI ?_) g_nt rfl
  refine g_icmp_eq (tgt := 1426) (pc' := 1044) dL_law_1041 (by decide) rfl (fun _ => kk) (fun h => absurd rfl h)
set_option maxHeartbeats 4000000 in
theorem lc28 {g : bGh} {A : tA} (hA : tO A) {n0 u0 : Nat} {Q : Outcome → bWl → Prop} {xa b Ln i : Nat} {xs : Nat → Int32} {w w1 : bWl} {M M' : tM} {r : Int32} (hX : scrAt g b Ln xs) (hi : i + 5 < Ln) (hL : Ln ≤ 384) (hxa : hC w xa = some 0) (h1 : fX0_wipe w xa = some (r, w1)) (h2 : tW A M w1 = w1) (h3 : fX3_wipe M = some (r, M')) (kk : bG (g, mdL, n0, u0, Q) (tW A M' w1) 1426 [some (.ref b), some (.ref xa), some (.ref A.1), some (.int (nI i))] []) : bG (g, mdL, n0, u0, Q) w 1046 [some (.ref b), some (.ref xa), some (.ref A.1), some (.int (nI i))] [] := by
  refine g_aload_n (pc' := 1047) dL_law_1046 rfl rfl rfl ?_
  refine g_callV (pc' := 1050) (mx := mdX0_wipe) (as := []) (wX0_wipe g _ xa h1) oX0_wipe ⟨Nat.le_of_ble_eq_true rfl, Nat.le_of_ble_eq_true rfl⟩ dL_law_1047 rfl (ci := 0) rfl hxa ⟨by decide +kernel, by decide +kernel⟩ oX0_wipe.2.2.2 rfl q774 q775 q776 q776 q775 (Nat.le_of_ble_eq_true rfl) (Nat.le_of_ble_eq_true rfl) (g_rI ?_) g_nt rfl
  rw [← h2]
  refine g_aload_n (pc' := 1051) dL_law_1050 rfl rfl rfl ?_
  refine g_callV (pc' := 1054) (mx := mdX3_wipe) (as := []) (wX3_wipe g hA w1 M h3) oX3_wipe ⟨Nat.le_of_ble_eq_true rfl, Nat.le_of_ble_eq_true rfl⟩ dL_law_1051 rfl (ci := 3) rfl tC ⟨by decide +kernel, by decide +kernel⟩ oX3_wipe.2.2.2 rfl q1387 q1388 q1389 q1389 q1388 (Nat.le_of_ble_eq_true rfl) (Nat.le_of_ble_eq_true rfl) (g_rI ?_) g_nt rfl
  refine g_icmp_eq (tgt := 1426) (pc' := 1057) dL_law_1054 (by decide) rfl (fun _ => kk) (fun h => absurd rfl h)
set_option maxHeartbeats 4000000 in
theorem lc29 {g : bGh} {A : tA} (hA : tO A) {n0 u0 : Nat} {Q : Outcome → bWl → Prop} {xa b Ln i : Nat} {xs : Nat → Int32} {w w1 : bWl} {M M' : tM} {r : Int32} (hX : scrAt g b Ln xs) (hi : i + 5 < Ln) (hL : Ln ≤ 384) (hxa : hC w xa = some 0) (h1 : fX0_town w xa = some (r, w1)) (h2 : tW A M w1 = w1) (h3 : fX3_town M = some (r, M')) (kk : bG (g, mdL, n0, u0, Q) (tW A M' w1) 1426 [some (.ref b), some (.ref xa), some (.ref A.1), some (.int (nI i))] []) : bG (g, mdL, n0, u0, Q) w 1059 [some (.ref b), some (.ref xa), some (.ref A.1), some (.int (nI i))] [] := by
  refine g_aload_n (pc' := 1060) dL_law_1059 rfl rfl rfl ?_
  refine g_callV (pc' := 1063) (mx := mdX0_town) (as := []) (wX0_town g _ xa h1) oX0_town ⟨Nat.le_of_ble_eq_true rfl, Nat.le_of_ble_eq_true rfl⟩ dL_law_1060 rfl (ci := 0) rfl hxa ⟨by decide +kernel, by decide +kernel⟩ oX0_town.2.2.2 rfl q778 q779 q780 q780 q779 (Nat.le_of_ble_eq_true rfl) (Nat.le_of_ble_eq_true rfl) (g_rI ?_) g_nt rfl
  rw [← h2]
  refine g_aload_n (pc' := 1064) dL_law_1063 rfl rfl rfl ?_
  refine g_callV (pc' := 1067) (mx := mdX3_town) (as := []) (wX3_town g hA w1 M h3) oX3_town ⟨Nat.le_of_ble_eq_true rfl, Nat.le_of_ble_eq_true rfl⟩ dL_law_1064 rfl (ci := 3) rfl tC ⟨by decide +kernel, by decide +kernel⟩ oX3_town.2.2.2 rfl q1391 q1392 q1393 q1393 q1392 (Nat.le_of_ble_eq_true rfl) (Nat.le_of_ble_eq_true rfl) (g_rI ?_) g_nt rfl
  refine g_icmp_eq (tgt := 1426) (pc' := 1070) dL_law_1067 (by decide) rfl (fun _ => kk) (fun h => absurd rfl h)
set_option maxHeartbeats 4000000 in
theorem lc30 {g : bGh} {A : tA} (hA : tO A) {n0 u0 : Nat} {Q : Outcome → bWl → Prop} {xa b Ln i : Nat} {xs : Nat → Int32} {w w1 : bWl} {M M' : tM} {r : Int32} (hX : scrAt g b Ln xs) (hi : i + 5 < Ln) (hL : Ln ≤ 384) (hxa : hC w xa = some 0) (h1 : fX0_sheet w xa (xs (i + 1)) (xs (i + 2)) (xs (i + 3)) = some (r, w1)) (h2 : tW A M w1 = w1) (h3 : fX3_sheet M (xs (i + 1)) (xs (i + 2)) (xs (i + 3)) = some (r, M')) (kk : bG (g, mdL, n0, u0, Q) (tW A M' w1) 1426 [some (.ref b), some (.ref xa), some (.ref A.1), some (.int (nI i))] []) : bG (g, mdL, n0, u0, Q) w 1072 [some (.ref b), some (.ref xa), some (.ref A.1), some (.int (nI i))] [] := by
  refine g_aload_n (pc' := 1073) dL_law_1072 rfl rfl rfl ?_
  refine g_aload_n (pc' := 1074) dL_law_1073 rfl rfl rfl ?_
  refine g_iload_n (pc' := 1075) dL_law_1074 rfl rfl rfl ?_
  refine g_iconst (pc' := 1076) (v := 1) dL_law_1075 rfl (by decide) ?_
  refine g_iadd (pc' := 1077) dL_law_1076 rfl ?_
  refine g_sld (pc' := 1078) (v := xs (i + 1)) hX (sc_in (d := 1) rfl hi hL (by decide)) dL_law_1077 rfl (congrArg xs (sc_cl (d := 1) rfl (by omega))) ?_
  refine g_aload_n (pc' := 1079) dL_law_1078 rfl rfl rfl ?_
  refine g_iload_n (pc' := 1080) dL_law_1079 rfl rfl rfl ?_
  refine g_iconst (pc' := 1081) (v := 2) dL_law_1080 rfl (by decide) ?_
  refine g_iadd (pc' := 1082) dL_law_1081 rfl ?_
  refine g_sld (pc' := 1083) (v := xs (i + 2)) hX (sc_in (d := 2) rfl hi hL (by decide)) dL_law_1082 rfl (congrArg xs (sc_cl (d := 2) rfl (by omega))) ?_
  refine g_aload_n (pc' := 1084) dL_law_1083 rfl rfl rfl ?_
  refine g_iload_n (pc' := 1085) dL_law_1084 rfl rfl rfl ?_
  refine g_iconst (pc' := 1086) (v := 3) dL_law_1085 rfl (by decide) ?_
  refine g_iadd (pc' := 1087) dL_law_1086 rfl ?_
  refine g_sld (pc' := 1088) (v := xs (i + 3)) hX (sc_in (d := 3) rfl hi hL (by decide)) dL_law_1087 rfl (congrArg xs (sc_cl (d := 3) rfl (by omega))) ?_
  refine g_callV (pc' := 1091) (mx := mdX0_sheet) (as := [.int (xs (i + 1)), .int (xs (i + 2)), .int (xs (i + 3))]) (wX0_sheet g _ xa (xs (i + 1)) (xs (i + 2)) (xs (i + 3)) h1) oX0_sheet ⟨Nat.le_of_ble_eq_true rfl, Nat.le_of_ble_eq_true rfl⟩ dL_law_1088 rfl (ci := 0) rfl hxa ⟨by decide +kernel, by decide +kernel⟩ oX0_sheet.2.2.2 rfl q989 q990 q991 q991 q990 (Nat.le_of_ble_eq_true rfl) (Nat.le_of_ble_eq_true rfl) (g_rI ?_) g_nt rfl
  rw [← h2]
  refine g_aload_n (pc' := 1092) dL_law_1091 rfl rfl rfl ?_
  refine g_aload_n (pc' := 1093) dL_law_1092 rfl rfl rfl ?_
  refine g_iload_n (pc' := 1094) dL_law_1093 rfl rfl rfl ?_
  refine g_iconst (pc' := 1095) (v := 1) dL_law_1094 rfl (by decide) ?_
  refine g_iadd (pc' := 1096) dL_law_1095 rfl ?_
  refine g_sld (pc' := 1097) (v := xs (i + 1)) hX (sc_in (d := 1) rfl hi hL (by decide)) dL_law_1096 rfl (congrArg xs (sc_cl (d := 1) rfl (by omega))) ?_
  refine g_aload_n (pc' := 1098) dL_law_1097 rfl rfl rfl ?_
  refine g_iload_n (pc' := 1099) dL_law_1098 rfl rfl rfl ?_
  refine g_iconst (pc' := 1100) (v := 2) dL_law_1099 rfl (by decide) ?_
  refine g_iadd (pc' := 1101) dL_law_1100 rfl ?_
  refine g_sld (pc' := 1102) (v := xs (i + 2)) hX (sc_in (d := 2) rfl hi hL (by decide)) dL_law_1101 rfl (congrArg xs (sc_cl (d := 2) rfl (by omega))) ?_
  refine g_aload_n (pc' := 1103) dL_law_1102 rfl rfl rfl ?_
  refine g_iload_n (pc' := 1104) dL_law_1103 rfl rfl rfl ?_
  refine g_iconst (pc' := 1105) (v := 3) dL_law_1104 rfl (by decide) ?_
  refine g_iadd (pc' := 1106) dL_law_1105 rfl ?_
  refine g_sld (pc' := 1107) (v := xs (i + 3)) hX (sc_in (d := 3) rfl hi hL (by decide)) dL_law_1106 rfl (congrArg xs (sc_cl (d := 3) rfl (by omega))) ?_
  refine g_callV (pc' := 1110) (mx := mdX3_sheet) (as := [.int (xs (i + 1)), .int (xs (i + 2)), .int (xs (i + 3))]) (wX3_sheet g hA w1 M (xs (i + 1)) (xs (i + 2)) (xs (i + 3)) h3) oX3_sheet ⟨Nat.le_of_ble_eq_true rfl, Nat.le_of_ble_eq_true rfl⟩ dL_law_1107 rfl (ci := 3) rfl tC ⟨by decide +kernel, by decide +kernel⟩ oX3_sheet.2.2.2 rfl q1473 q1474 q1475 q1475 q1474 (Nat.le_of_ble_eq_true rfl) (Nat.le_of_ble_eq_true rfl) (g_rI ?_) g_nt rfl
  refine g_icmp_eq (tgt := 1426) (pc' := 1113) dL_law_1110 (by decide) rfl (fun _ => kk) (fun h => absurd rfl h)
set_option maxHeartbeats 4000000 in
theorem lc31 {g : bGh} {A : tA} (hA : tO A) {n0 u0 : Nat} {Q : Outcome → bWl → Prop} {xa b Ln i : Nat} {xs : Nat → Int32} {w w1 : bWl} {M M' : tM} {r : Int64} (hX : scrAt g b Ln xs) (hi : i + 5 < Ln) (hL : Ln ≤ 384) (hxa : hC w xa = some 0) (h1 : fX0_write w xa (xs (i + 1)) (xs (i + 2)) (((xs (i + 3)).toInt64 <<< ((32 : Int32).toInt64 &&& 63)) ||| ((xs (i + 4)).toInt64 &&& 4294967295)) = some (r, w1)) (h2 : tW A M w1 = w1) (h3 : fX3_write M (xs (i + 1)) (xs (i + 2)) (((xs (i + 3)).toInt64 <<< ((32 : Int32).toInt64 &&& 63)) ||| ((xs (i + 4)).toInt64 &&& 4294967295)) = some (r, M')) (kk : bG (g, mdL, n0, u0, Q) (tW A M' w1) 1426 [some (.ref b), some (.ref xa), some (.ref A.1), some (.int (nI i))] []) : bG (g, mdL, n0, u0, Q) w 1115 [some (.ref b), some (.ref xa), some (.ref A.1), some (.int (nI i))] [] := by
  refine g_aload_n (pc' := 1116) dL_law_1115 rfl rfl rfl ?_
  refine g_aload_n (pc' := 1117) dL_law_1116 rfl rfl rfl ?_
  refine g_iload_n (pc' := 1118) dL_law_1117 rfl rfl rfl ?_
  refine g_iconst (pc' := 1119) (v := 1) dL_law_1118 rfl (by decide) ?_
  refine g_iadd (pc' := 1120) dL_law_1119 rfl ?_
  refine g_sld (pc' := 1121) (v := xs (i + 1)) hX (sc_in (d := 1) rfl hi hL (by decide)) dL_law_1120 rfl (congrArg xs (sc_cl (d := 1) rfl (by omega))) ?_
  refine g_aload_n (pc' := 1122) dL_law_1121 rfl rfl rfl ?_
  refine g_iload_n (pc' := 1123) dL_law_1122 rfl rfl rfl ?_
  refine g_iconst (pc' := 1124) (v := 2) dL_law_1123 rfl (by decide) ?_
  refine g_iadd (pc' := 1125) dL_law_1124 rfl ?_
  refine g_sld (pc' := 1126) (v := xs (i + 2)) hX (sc_in (d := 2) rfl hi hL (by decide)) dL_law_1125 rfl (congrArg xs (sc_cl (d := 2) rfl (by omega))) ?_
  refine g_aload_n (pc' := 1127) dL_law_1126 rfl rfl rfl ?_
  refine g_iload_n (pc' := 1128) dL_law_1127 rfl rfl rfl ?_
  refine g_iconst (pc' := 1129) (v := 3) dL_law_1128 rfl (by decide) ?_
  refine g_iadd (pc' := 1130) dL_law_1129 rfl ?_
  refine g_sld (pc' := 1131) (v := xs (i + 3)) hX (sc_in (d := 3) rfl hi hL (by decide)) dL_law_1130 rfl (congrArg xs (sc_cl (d := 3) rfl (by omega))) ?_
  refine g_i2l (pc' := 1132) dL_law_1131 rfl ?_
  refine g_bipush (pc' := 1134) (v := 32) dL_law_1132 rfl (by decide) ?_
  refine g_lshl (pc' := 1135) dL_law_1134 rfl ?_
  refine g_aload_n (pc' := 1136) dL_law_1135 rfl rfl rfl ?_
  refine g_iload_n (pc' := 1137) dL_law_1136 rfl rfl rfl ?_
  refine g_iconst (pc' := 1138) (v := 4) dL_law_1137 rfl (by decide) ?_
  refine g_iadd (pc' := 1139) dL_law_1138 rfl ?_
  refine g_sld (pc' := 1140) (v := xs (i + 4)) hX (sc_in (d := 4) rfl hi hL (by decide)) dL_law_1139 rfl (congrArg xs (sc_cl (d := 4) rfl (by omega))) ?_
  refine g_i2l (pc' := 1141) dL_law_1140 rfl ?_
  refine g_ldc2 (pc' := 1144) (v := 4294967295) dL_law_1141 rfl q1543 ?_
  refine g_land (pc' := 1145) dL_law_1144 rfl ?_
  refine g_lor (pc' := 1146) dL_law_1145 rfl ?_
  refine g_callV (pc' := 1149) (mx := mdX0_write) (as := [.int (xs (i + 1)), .int (xs (i + 2)), .long (((xs (i + 3)).toInt64 <<< ((32 : Int32).toInt64 &&& 63)) ||| ((xs (i + 4)).toInt64 &&& 4294967295))]) (wX0_write g _ xa (xs (i + 1)) (xs (i + 2)) (((xs (i + 3)).toInt64 <<< ((32 : Int32).toInt64 &&& 63)) ||| ((xs (i + 4)).toInt64 &&& 4294967295)) h1) oX0_write ⟨Nat.le_of_ble_eq_true rfl, Nat.le_of_ble_eq_true rfl⟩ dL_law_1146 rfl (ci := 0) rfl hxa ⟨by decide +kernel, by decide +kernel⟩ oX0_write.2.2.2 rfl q998 q999 q1000 q1000 q999 (Nat.le_of_ble_eq_true rfl) (Nat.le_of_ble_eq_true rfl) (g_rJ ?_) g_nt rfl
  rw [← h2]
  refine g_aload_n (pc' := 1150) dL_law_1149 rfl rfl rfl ?_
  refine g_aload_n (pc' := 1151) dL_law_1150 rfl rfl rfl ?_
  refine g_iload_n (pc' := 1152) dL_law_1151 rfl rfl rfl ?_
  refine g_iconst (pc' := 1153) (v := 1) dL_law_1152 rfl (by decide) ?_
  refine g_iadd (pc' := 1154) dL_law_1153 rfl ?_
  refine g_sld (pc' := 1155) (v := xs (i + 1)) hX (sc_in (d := 1) rfl hi hL (by decide)) dL_law_1154 rfl (congrArg xs (sc_cl (d := 1) rfl (by omega))) ?_
  refine g_aload_n (pc' := 1156) dL_law_1155 rfl rfl rfl ?_
  refine g_iload_n (pc' := 1157) dL_law_1156 rfl rfl rfl ?_
  refine g_iconst (pc' := 1158) (v := 2) dL_law_1157 rfl (by decide) ?_
  refine g_iadd (pc' := 1159) dL_law_1158 rfl ?_
  refine g_sld (pc' := 1160) (v := xs (i + 2)) hX (sc_in (d := 2) rfl hi hL (by decide)) dL_law_1159 rfl (congrArg xs (sc_cl (d := 2) rfl (by omega))) ?_
  refine g_aload_n (pc' := 1161) dL_law_1160 rfl rfl rfl ?_
  refine g_iload_n (pc' := 1162) dL_law_1161 rfl rfl rfl ?_
  refine g_iconst (pc' := 1163) (v := 3) dL_law_1162 rfl (by decide) ?_
  refine g_iadd (pc' := 1164) dL_law_1163 rfl ?_
  refine g_sld (pc' := 1165) (v := xs (i + 3)) hX (sc_in (d := 3) rfl hi hL (by decide)) dL_law_1164 rfl (congrArg xs (sc_cl (d := 3) rfl (by omega))) ?_
  refine g_i2l (pc' := 1166) dL_law_1165 rfl ?_
  refine g_bipush (pc' := 1168) (v := 32) dL_law_1166 rfl (by decide) ?_
  refine g_lshl (pc' := 1169) dL_law_1168 rfl ?_
  refine g_aload_n (pc' := 1170) dL_law_1169 rfl rfl rfl ?_
  refine g_iload_n (pc' := 1171) dL_law_1170 rfl rfl rfl ?_
  refine g_iconst (pc' := 1172) (v := 4) dL_law_1171 rfl (by decide) ?_
  refine g_iadd (pc' := 1173) dL_law_1172 rfl ?_
  refine g_sld (pc' := 1174) (v := xs (i + 4)) hX (sc_in (d := 4) rfl hi hL (by decide)) dL_law_1173 rfl (congrArg xs (sc_cl (d := 4) rfl (by omega))) ?_
  refine g_i2l (pc' := 1175) dL_law_1174 rfl ?_
  refine g_ldc2 (pc' := 1178) (v := 4294967295) dL_law_1175 rfl q1543 ?_
  refine g_land (pc' := 1179) dL_law_1178 rfl ?_
  refine g_lor (pc' := 1180) dL_law_1179 rfl ?_
  refine g_callV (pc' := 1183) (mx := mdX3_write) (as := [.int (xs (i + 1)), .int (xs (i + 2)), .long (((xs (i + 3)).toInt64 <<< ((32 : Int32).toInt64 &&& 63)) ||| ((xs (i + 4)).toInt64 &&& 4294967295))]) (wX3_write g hA w1 M (xs (i + 1)) (xs (i + 2)) (((xs (i + 3)).toInt64 <<< ((32 : Int32).toInt64 &&& 63)) ||| ((xs (i + 4)).toInt64 &&& 4294967295)) h3) oX3_write ⟨Nat.le_of_ble_eq_true rfl, Nat.le_of_ble_eq_true rfl⟩ dL_law_1180 rfl (ci := 3) rfl tC ⟨by decide +kernel, by decide +kernel⟩ oX3_write.2.2.2 rfl q1481 q1482 q1483 q1483 q1482 (Nat.le_of_ble_eq_true rfl) (Nat.le_of_ble_eq_true rfl) (g_rJ ?_) g_nt rfl
  refine g_lcmp (pc' := 1184) dL_law_1183 rfl ?_
  refine g_if_eq (tgt := 1426) (pc' := 1187) dL_law_1184 (by decide) rfl (fun _ => kk) (fun h => absurd (by simp [lg_cmp]) h)
set_option maxHeartbeats 4000000 in
theorem lc32 {g : bGh} {A : tA} (hA : tO A) {n0 u0 : Nat} {Q : Outcome → bWl → Prop} {xa b Ln i : Nat} {xs : Nat → Int32} {w w1 : bWl} {M M' : tM} {r : Int32} (hX : scrAt g b Ln xs) (hi : i + 5 < Ln) (hL : Ln ≤ 384) (hxa : hC w xa = some 0) (h1 : fX0_copy w xa (xs (i + 1)) (xs (i + 2)) (xs (i + 3)) (xs (i + 4)) (xs (i + 5)) = some (r, w1)) (h2 : tW A M w1 = w1) (h3 : fX3_copy M (xs (i + 1)) (xs (i + 2)) (xs (i + 3)) (xs (i + 4)) (xs (i + 5)) = some (r, M')) (kk : bG (g, mdL, n0, u0, Q) (tW A M' w1) 1426 [some (.ref b), some (.ref xa), some (.ref A.1), some (.int (nI i))] []) : bG (g, mdL, n0, u0, Q) w 1189 [some (.ref b), some (.ref xa), some (.ref A.1), some (.int (nI i))] [] := by
  refine g_aload_n (pc' := 1190) dL_law_1189 rfl rfl rfl ?_
  refine g_aload_n (pc' := 1191) dL_law_1190 rfl rfl rfl ?_
  refine g_iload_n (pc' := 1192) dL_law_1191 rfl rfl rfl ?_
  refine g_iconst (pc' := 1193) (v := 1) dL_law_1192 rfl (by decide) ?_
  refine g_iadd (pc' := 1194) dL_law_1193 rfl ?_
  refine g_sld (pc' := 1195) (v := xs (i + 1)) hX (sc_in (d := 1) rfl hi hL (by decide)) dL_law_1194 rfl (congrArg xs (sc_cl (d := 1) rfl (by omega))) ?_
  refine g_aload_n (pc' := 1196) dL_law_1195 rfl rfl rfl ?_
  refine g_iload_n (pc' := 1197) dL_law_1196 rfl rfl rfl ?_
  refine g_iconst (pc' := 1198) (v := 2) dL_law_1197 rfl (by decide) ?_
  refine g_iadd (pc' := 1199) dL_law_1198 rfl ?_
  refine g_sld (pc' := 1200) (v := xs (i + 2)) hX (sc_in (d := 2) rfl hi hL (by decide)) dL_law_1199 rfl (congrArg xs (sc_cl (d := 2) rfl (by omega))) ?_
  refine g_aload_n (pc' := 1201) dL_law_1200 rfl rfl rfl ?_
  refine g_iload_n (pc' := 1202) dL_law_1201 rfl rfl rfl ?_
  refine g_iconst (pc' := 1203) (v := 3) dL_law_1202 rfl (by decide) ?_
  refine g_iadd (pc' := 1204) dL_law_1203 rfl ?_
  refine g_sld (pc' := 1205) (v := xs (i + 3)) hX (sc_in (d := 3) rfl hi hL (by decide)) dL_law_1204 rfl (congrArg xs (sc_cl (d := 3) rfl (by omega))) ?_
  refine g_aload_n (pc' := 1206) dL_law_1205 rfl rfl rfl ?_
  refine g_iload_n (pc' := 1207) dL_law_1206 rfl rfl rfl ?_
  refine g_iconst (pc' := 1208) (v := 4) dL_law_1207 rfl (by decide) ?_
  refine g_iadd (pc' := 1209) dL_law_1208 rfl ?_
  refine g_sld (pc' := 1210) (v := xs (i + 4)) hX (sc_in (d := 4) rfl hi hL (by decide)) dL_law_1209 rfl (congrArg xs (sc_cl (d := 4) rfl (by omega))) ?_
  refine g_aload_n (pc' := 1211) dL_law_1210 rfl rfl rfl ?_
  refine g_iload_n (pc' := 1212) dL_law_1211 rfl rfl rfl ?_
  refine g_iconst (pc' := 1213) (v := 5) dL_law_1212 rfl (by decide) ?_
  refine g_iadd (pc' := 1214) dL_law_1213 rfl ?_
  refine g_sld (pc' := 1215) (v := xs (i + 5)) hX (sc_in (d := 5) rfl hi hL (by decide)) dL_law_1214 rfl (congrArg xs (sc_cl (d := 5) rfl (by omega))) ?_
  refine g_callV (pc' := 1218) (mx := mdX0_copy) (as := [.int (xs (i + 1)), .int (xs (i + 2)), .int (xs (i + 3)), .int (xs (i + 4)), .int (xs (i + 5))]) (wX0_copy g _ xa (xs (i + 1)) (xs (i + 2)) (xs (i + 3)) (xs (i + 4)) (xs (i + 5)) h1) oX0_copy ⟨Nat.le_of_ble_eq_true rfl, Nat.le_of_ble_eq_true rfl⟩ dL_law_1215 rfl (ci := 0) rfl hxa ⟨by decide +kernel, by decide +kernel⟩ oX0_copy.2.2.2 rfl q1006 q1007 q1008 q1008 q1007 (Nat.le_of_ble_eq_true rfl) (Nat.le_of_ble_eq_true rfl) (g_rI ?_) g_nt rfl
  rw [← h2]
  refine g_aload_n (pc' := 1219) dL_law_1218 rfl rfl rfl ?_
  refine g_aload_n (pc' := 1220) dL_law_1219 rfl rfl rfl ?_
  refine g_iload_n (pc' := 1221) dL_law_1220 rfl rfl rfl ?_
  refine g_iconst (pc' := 1222) (v := 1) dL_law_1221 rfl (by decide) ?_
  refine g_iadd (pc' := 1223) dL_law_1222 rfl ?_
  refine g_sld (pc' := 1224) (v := xs (i + 1)) hX (sc_in (d := 1) rfl hi hL (by decide)) dL_law_1223 rfl (congrArg xs (sc_cl (d := 1) rfl (by omega))) ?_
  refine g_aload_n (pc' := 1225) dL_law_1224 rfl rfl rfl ?_
  refine g_iload_n (pc' := 1226) dL_law_1225 rfl rfl rfl ?_
  refine g_iconst (pc' := 1227) (v := 2) dL_law_1226 rfl (by decide) ?_
  refine g_iadd (pc' := 1228) dL_law_1227 rfl ?_
  refine g_sld (pc' := 1229) (v := xs (i + 2)) hX (sc_in (d := 2) rfl hi hL (by decide)) dL_law_1228 rfl (congrArg xs (sc_cl (d := 2) rfl (by omega))) ?_
  refine g_aload_n (pc' := 1230) dL_law_1229 rfl rfl rfl ?_
  refine g_iload_n (pc' := 1231) dL_law_1230 rfl rfl rfl ?_
  refine g_iconst (pc' := 1232) (v := 3) dL_law_1231 rfl (by decide) ?_
  refine g_iadd (pc' := 1233) dL_law_1232 rfl ?_
  refine g_sld (pc' := 1234) (v := xs (i + 3)) hX (sc_in (d := 3) rfl hi hL (by decide)) dL_law_1233 rfl (congrArg xs (sc_cl (d := 3) rfl (by omega))) ?_
  refine g_aload_n (pc' := 1235) dL_law_1234 rfl rfl rfl ?_
  refine g_iload_n (pc' := 1236) dL_law_1235 rfl rfl rfl ?_
  refine g_iconst (pc' := 1237) (v := 4) dL_law_1236 rfl (by decide) ?_
  refine g_iadd (pc' := 1238) dL_law_1237 rfl ?_
  refine g_sld (pc' := 1239) (v := xs (i + 4)) hX (sc_in (d := 4) rfl hi hL (by decide)) dL_law_1238 rfl (congrArg xs (sc_cl (d := 4) rfl (by omega))) ?_
  refine g_aload_n (pc' := 1240) dL_law_1239 rfl rfl rfl ?_
  refine g_iload_n (pc' := 1241) dL_law_1240 rfl rfl rfl ?_
  refine g_iconst (pc' := 1242) (v := 5) dL_law_1241 rfl (by decide) ?_
  refine g_iadd (pc' := 1243) dL_law_1242 rfl ?_
  refine g_sld (pc' := 1244) (v := xs (i + 5)) hX (sc_in (d := 5) rfl hi hL (by decide)) dL_law_1243 rfl (congrArg xs (sc_cl (d := 5) rfl (by omega))) ?_
  refine g_callV (pc' := 1247) (mx := mdX3_copy) (as := [.int (xs (i + 1)), .int (xs (i + 2)), .int (xs (i + 3)), .int (xs (i + 4)), .int (xs (i + 5))]) (wX3_copy g hA w1 M (xs (i + 1)) (xs (i + 2)) (xs (i + 3)) (xs (i + 4)) (xs (i + 5)) h3) oX3_copy ⟨Nat.le_of_ble_eq_true rfl, Nat.le_of_ble_eq_true rfl⟩ dL_law_1244 rfl (ci := 3) rfl tC ⟨by decide +kernel, by decide +kernel⟩ oX3_copy.2.2.2 rfl q1493 q1494 q1495 q1495 q1494 (Nat.le_of_ble_eq_true rfl) (Nat.le_of_ble_eq_true rfl) (g_rI ?_) g_nt rfl
  refine g_icmp_eq (tgt := 1426) (pc' := 1250) dL_law_1247 (by decide) rfl (fun _ => kk) (fun h => absurd rfl h)
set_option maxHeartbeats 4000000 in
theorem lc33 {g : bGh} {A : tA} (hA : tO A) {n0 u0 : Nat} {Q : Outcome → bWl → Prop} {xa b Ln i : Nat} {xs : Nat → Int32} {w w1 : bWl} {M M' : tM} {r : Int32} (hX : scrAt g b Ln xs) (hi : i + 5 < Ln) (hL : Ln ≤ 384) (hxa : hC w xa = some 0) (h1 : fX0_lays w xa (xs (i + 1)) = some (r, w1)) (h2 : tW A M w1 = w1) (h3 : fX3_lays M (xs (i + 1)) = some (r, M')) (kk : bG (g, mdL, n0, u0, Q) (tW A M' w1) 1426 [some (.ref b), some (.ref xa), some (.ref A.1), some (.int (nI i))] []) : bG (g, mdL, n0, u0, Q) w 1252 [some (.ref b), some (.ref xa), some (.ref A.1), some (.int (nI i))] [] := by
  refine g_aload_n (pc' := 1253) dL_law_1252 rfl rfl rfl ?_
  refine g_aload_n (pc' := 1254) dL_law_1253 rfl rfl rfl ?_
  refine g_iload_n (pc' := 1255) dL_law_1254 rfl rfl rfl ?_
  refine g_iconst (pc' := 1256) (v := 1) dL_law_1255 rfl (by decide) ?_
  refine g_iadd (pc' := 1257) dL_law_1256 rfl ?_
  refine g_sld (pc' := 1258) (v := xs (i + 1)) hX (sc_in (d := 1) rfl hi hL (by decide)) dL_law_1257 rfl (congrArg xs (sc_cl (d := 1) rfl (by omega))) ?_
  refine g_callV (pc' := 1261) (mx := mdX0_lays) (as := [.int (xs (i + 1))]) (wX0_lays g _ xa (xs (i + 1)) h1) oX0_lays ⟨Nat.le_of_ble_eq_true rfl, Nat.le_of_ble_eq_true rfl⟩ dL_law_1258 rfl (ci := 0) rfl hxa ⟨by decide +kernel, by decide +kernel⟩ oX0_lays.2.2.2 rfl q954 q955 q956 q956 q955 (Nat.le_of_ble_eq_true rfl) (Nat.le_of_ble_eq_true rfl) (g_rI ?_) g_nt rfl
  rw [← h2]
  refine g_aload_n (pc' := 1262) dL_law_1261 rfl rfl rfl ?_
  refine g_aload_n (pc' := 1263) dL_law_1262 rfl rfl rfl ?_
  refine g_iload_n (pc' := 1264) dL_law_1263 rfl rfl rfl ?_
  refine g_iconst (pc' := 1265) (v := 1) dL_law_1264 rfl (by decide) ?_
  refine g_iadd (pc' := 1266) dL_law_1265 rfl ?_
  refine g_sld (pc' := 1267) (v := xs (i + 1)) hX (sc_in (d := 1) rfl hi hL (by decide)) dL_law_1266 rfl (congrArg xs (sc_cl (d := 1) rfl (by omega))) ?_
  refine g_callV (pc' := 1270) (mx := mdX3_lays) (as := [.int (xs (i + 1))]) (wX3_lays g hA w1 M (xs (i + 1)) h3) oX3_lays ⟨Nat.le_of_ble_eq_true rfl, Nat.le_of_ble_eq_true rfl⟩ dL_law_1267 rfl (ci := 3) rfl tC ⟨by decide +kernel, by decide +kernel⟩ oX3_lays.2.2.2 rfl q1497 q1498 q1499 q1499 q1498 (Nat.le_of_ble_eq_true rfl) (Nat.le_of_ble_eq_true rfl) (g_rI ?_) g_nt rfl
  refine g_icmp_eq (tgt := 1426) (pc' := 1273) dL_law_1270 (by decide) rfl (fun _ => kk) (fun h => absurd rfl h)
set_option maxHeartbeats 4000000 in
theorem lc34 {g : bGh} {A : tA} (hA : tO A) {n0 u0 : Nat} {Q : Outcome → bWl → Prop} {xa b Ln i : Nat} {xs : Nat → Int32} {w w1 : bWl} {M M' : tM} {r : Int32} (hX : scrAt g b Ln xs) (hi : i + 5 < Ln) (hL : Ln ≤ 384) (hxa : hC w xa = some 0) (h1 : fX0_book w xa (xs (i + 1)) (xs (i + 2)) = some (r, w1)) (h2 : tW A M w1 = w1) (h3 : fX3_book M (xs (i + 1)) (xs (i + 2)) = some (r, M')) (kk : bG (g, mdL, n0, u0, Q) (tW A M' w1) 1426 [some (.ref b), some (.ref xa), some (.ref A.1), some (.int (nI i))] []) : bG (g, mdL, n0, u0, Q) w 1275 [some (.ref b), some (.ref xa), some (.ref A.1), some (.int (nI i))] [] := by
  refine g_aload_n (pc' := 1276) dL_law_1275 rfl rfl rfl ?_
  refine g_aload_n (pc' := 1277) dL_law_1276 rfl rfl rfl ?_
  refine g_iload_n (pc' := 1278) dL_law_1277 rfl rfl rfl ?_
  refine g_iconst (pc' := 1279) (v := 1) dL_law_1278 rfl (by decide) ?_
  refine g_iadd (pc' := 1280) dL_law_1279 rfl ?_
  refine g_sld (pc' := 1281) (v := xs (i + 1)) hX (sc_in (d := 1) rfl hi hL (by decide)) dL_law_1280 rfl (congrArg xs (sc_cl (d := 1) rfl (by omega))) ?_
  refine g_aload_n (pc' := 1282) dL_law_1281 rfl rfl rfl ?_
  refine g_iload_n (pc' := 1283) dL_law_1282 rfl rfl rfl ?_
  refine g_iconst (pc' := 1284) (v := 2) dL_law_1283 rfl (by decide) ?_
  refine g_iadd (pc' := 1285) dL_law_1284 rfl ?_
  refine g_sld (pc' := 1286) (v := xs (i + 2)) hX (sc_in (d := 2) rfl hi hL (by decide)) dL_law_1285 rfl (congrArg xs (sc_cl (d := 2) rfl (by omega))) ?_
  refine g_callV (pc' := 1289) (mx := mdX0_book) (as := [.int (xs (i + 1)), .int (xs (i + 2))]) (wX0_book g _ xa (xs (i + 1)) (xs (i + 2)) h1) oX0_book ⟨Nat.le_of_ble_eq_true rfl, Nat.le_of_ble_eq_true rfl⟩ dL_law_1286 rfl (ci := 0) rfl hxa ⟨by decide +kernel, by decide +kernel⟩ oX0_book.2.2.2 rfl q974 q975 q976 q976 q975 (Nat.le_of_ble_eq_true rfl) (Nat.le_of_ble_eq_true rfl) (g_rI ?_) g_nt rfl
  rw [← h2]
  refine g_aload_n (pc' := 1290) dL_law_1289 rfl rfl rfl ?_
  refine g_aload_n (pc' := 1291) dL_law_1290 rfl rfl rfl ?_
  refine g_iload_n (pc' := 1292) dL_law_1291 rfl rfl rfl ?_
  refine g_iconst (pc' := 1293) (v := 1) dL_law_1292 rfl (by decide) ?_
  refine g_iadd (pc' := 1294) dL_law_1293 rfl ?_
  refine g_sld (pc' := 1295) (v := xs (i + 1)) hX (sc_in (d := 1) rfl hi hL (by decide)) dL_law_1294 rfl (congrArg xs (sc_cl (d := 1) rfl (by omega))) ?_
  refine g_aload_n (pc' := 1296) dL_law_1295 rfl rfl rfl ?_
  refine g_iload_n (pc' := 1297) dL_law_1296 rfl rfl rfl ?_
  refine g_iconst (pc' := 1298) (v := 2) dL_law_1297 rfl (by decide) ?_
  refine g_iadd (pc' := 1299) dL_law_1298 rfl ?_
  refine g_sld (pc' := 1300) (v := xs (i + 2)) hX (sc_in (d := 2) rfl hi hL (by decide)) dL_law_1299 rfl (congrArg xs (sc_cl (d := 2) rfl (by omega))) ?_
  refine g_callV (pc' := 1303) (mx := mdX3_book) (as := [.int (xs (i + 1)), .int (xs (i + 2))]) (wX3_book g hA w1 M (xs (i + 1)) (xs (i + 2)) h3) oX3_book ⟨Nat.le_of_ble_eq_true rfl, Nat.le_of_ble_eq_true rfl⟩ dL_law_1300 rfl (ci := 3) rfl tC ⟨by decide +kernel, by decide +kernel⟩ oX3_book.2.2.2 rfl q1501 q1502 q1503 q1503 q1502 (Nat.le_of_ble_eq_true rfl) (Nat.le_of_ble_eq_true rfl) (g_rI ?_) g_nt rfl
  refine g_icmp_eq (tgt := 1426) (pc' := 1306) dL_law_1303 (by decide) rfl (fun _ => kk) (fun h => absurd rfl h)
set_option maxHeartbeats 4000000 in
theorem lc35 {g : bGh} {A : tA} (hA : tO A) {n0 u0 : Nat} {Q : Outcome → bWl → Prop} {xa b Ln i : Nat} {xs : Nat → Int32} {w w1 : bWl} {M M' : tM} {r : Int32} (hX : scrAt g b Ln xs) (hi : i + 5 < Ln) (hL : Ln ≤ 384) (hxa : hC w xa = some 0) (h1 : fX0_read w xa (xs (i + 1)) (xs (i + 2)) = some (r, w1)) (h2 : tW A M w1 = w1) (h3 : fX3_read M (xs (i + 1)) (xs (i + 2)) = some (r, M')) (kk : bG (g, mdL, n0, u0, Q) (tW A M' w1) 1426 [some (.ref b), some (.ref xa), some (.ref A.1), some (.int (nI i))] []) : bG (g, mdL, n0, u0, Q) w 1308 [some (.ref b), some (.ref xa), some (.ref A.1), some (.int (nI i))] [] := by
  refine g_aload_n (pc' := 1309) dL_law_1308 rfl rfl rfl ?_
  refine g_aload_n (pc' := 1310) dL_law_1309 rfl rfl rfl ?_
  refine g_iload_n (pc' := 1311) dL_law_1310 rfl rfl rfl ?_
  refine g_iconst (pc' := 1312) (v := 1) dL_law_1311 rfl (by decide) ?_
  refine g_iadd (pc' := 1313) dL_law_1312 rfl ?_
  refine g_sld (pc' := 1314) (v := xs (i + 1)) hX (sc_in (d := 1) rfl hi hL (by decide)) dL_law_1313 rfl (congrArg xs (sc_cl (d := 1) rfl (by omega))) ?_
  refine g_aload_n (pc' := 1315) dL_law_1314 rfl rfl rfl ?_
  refine g_iload_n (pc' := 1316) dL_law_1315 rfl rfl rfl ?_
  refine g_iconst (pc' := 1317) (v := 2) dL_law_1316 rfl (by decide) ?_
  refine g_iadd (pc' := 1318) dL_law_1317 rfl ?_
  refine g_sld (pc' := 1319) (v := xs (i + 2)) hX (sc_in (d := 2) rfl hi hL (by decide)) dL_law_1318 rfl (congrArg xs (sc_cl (d := 2) rfl (by omega))) ?_
  refine g_callV (pc' := 1322) (mx := mdX0_read) (as := [.int (xs (i + 1)), .int (xs (i + 2))]) (wX0_read g _ xa (xs (i + 1)) (xs (i + 2)) h1) oX0_read ⟨Nat.le_of_ble_eq_true rfl, Nat.le_of_ble_eq_true rfl⟩ dL_law_1319 rfl (ci := 0) rfl hxa ⟨by decide +kernel, by decide +kernel⟩ oX0_read.2.2.2 rfl q981 q982 q983 q983 q982 (Nat.le_of_ble_eq_true rfl) (Nat.le_of_ble_eq_true rfl) (g_rI ?_) g_nt rfl
  rw [← h2]
  refine g_aload_n (pc' := 1323) dL_law_1322 rfl rfl rfl ?_
  refine g_aload_n (pc' := 1324) dL_law_1323 rfl rfl rfl ?_
  refine g_iload_n (pc' := 1325) dL_law_1324 rfl rfl rfl ?_
  refine g_iconst (pc' := 1326) (v := 1) dL_law_1325 rfl (by decide) ?_
  refine g_iadd (pc' := 1327) dL_law_1326 rfl ?_
  refine g_sld (pc' := 1328) (v := xs (i + 1)) hX (sc_in (d := 1) rfl hi hL (by decide)) dL_law_1327 rfl (congrArg xs (sc_cl (d := 1) rfl (by omega))) ?_
  refine g_aload_n (pc' := 1329) dL_law_1328 rfl rfl rfl ?_
  refine g_iload_n (pc' := 1330) dL_law_1329 rfl rfl rfl ?_
  refine g_iconst (pc' := 1331) (v := 2) dL_law_1330 rfl (by decide) ?_
  refine g_iadd (pc' := 1332) dL_law_1331 rfl ?_
  refine g_sld (pc' := 1333) (v := xs (i + 2)) hX (sc_in (d := 2) rfl hi hL (by decide)) dL_law_1332 rfl (congrArg xs (sc_cl (d := 2) rfl (by omega))) ?_
  refine g_callV (pc' := 1336) (mx := mdX3_read) (as := [.int (xs (i + 1)), .int (xs (i + 2))]) (wX3_read g hA w1 M (xs (i + 1)) (xs (i + 2)) h3) oX3_read ⟨Nat.le_of_ble_eq_true rfl, Nat.le_of_ble_eq_true rfl⟩ dL_law_1333 rfl (ci := 3) rfl tC ⟨by decide +kernel, by decide +kernel⟩ oX3_read.2.2.2 rfl q1509 q1510 q1511 q1511 q1510 (Nat.le_of_ble_eq_true rfl) (Nat.le_of_ble_eq_true rfl) (g_rI ?_) g_nt rfl
  refine g_icmp_eq (tgt := 1426) (pc' := 1339) dL_law_1336 (by decide) rfl (fun _ => kk) (fun h => absurd rfl h)
set_option maxHeartbeats 4000000 in
theorem lc36 {g : bGh} {A : tA} (hA : tO A) {n0 u0 : Nat} {Q : Outcome → bWl → Prop} {xa b Ln i : Nat} {xs : Nat → Int32} {w w1 : bWl} {M M' : tM} {r : Int32} (hX : scrAt g b Ln xs) (hi : i + 5 < Ln) (hL : Ln ≤ 384) (hxa : hC w xa = some 0) (h1 : fX0_image w xa = some (r, w1)) (h2 : tW A M w1 = w1) (h3 : fX3_image M = some (r, M')) (kk : bG (g, mdL, n0, u0, Q) (tW A M' w1) 1426 [some (.ref b), some (.ref xa), some (.ref A.1), some (.int (nI i))] []) : bG (g, mdL, n0, u0, Q) w 1341 [some (.ref b), some (.ref xa), some (.ref A.1), some (.int (nI i))] [] := by
  refine g_aload_n (pc' := 1342) dL_law_1341 rfl rfl rfl ?_
  refine g_callV (pc' := 1345) (mx := mdX0_image) (as := []) (wX0_image g _ xa h1) oX0_image ⟨Nat.le_of_ble_eq_true rfl, Nat.le_of_ble_eq_true rfl⟩ dL_law_1342 rfl (ci := 0) rfl hxa ⟨by decide +kernel, by decide +kernel⟩ oX0_image.2.2.2 rfl q1014 q1015 q1016 q1016 q1015 (Nat.le_of_ble_eq_true rfl) (Nat.le_of_ble_eq_true rfl) (g_rI ?_) g_nt rfl
  rw [← h2]
  refine g_aload_n (pc' := 1346) dL_law_1345 rfl rfl rfl ?_
  refine g_callV (pc' := 1349) (mx := mdX3_image) (as := []) (wX3_image g hA w1 M h3) oX3_image ⟨Nat.le_of_ble_eq_true rfl, Nat.le_of_ble_eq_true rfl⟩ dL_law_1346 rfl (ci := 3) rfl tC ⟨by decide +kernel, by decide +kernel⟩ oX3_image.2.2.2 rfl q1517 q1518 q1519 q1519 q1518 (Nat.le_of_ble_eq_true rfl) (Nat.le_of_ble_eq_true rfl) (g_rI ?_) g_nt rfl
  refine g_icmp_eq (tgt := 1426) (pc' := 1352) dL_law_1349 (by decide) rfl (fun _ => kk) (fun h => absurd rfl h)
set_option maxHeartbeats 4000000 in
theorem lc37 {g : bGh} {A : tA} (hA : tO A) {n0 u0 : Nat} {Q : Outcome → bWl → Prop} {xa b Ln i : Nat} {xs : Nat → Int32} {w w1 : bWl} {M M' : tM} {r : Int32} (hX : scrAt g b Ln xs) (hi : i + 5 < Ln) (hL : Ln ≤ 384) (hxa : hC w xa = some 0) (h1 : fX0_undo w xa = some (r, w1)) (h2 : tW A M w1 = w1) (h3 : fX3_undo M = some (r, M')) (kk : bG (g, mdL, n0, u0, Q) (tW A M' w1) 1426 [some (.ref b), some (.ref xa), some (.ref A.1), some (.int (nI i))] []) : bG (g, mdL, n0, u0, Q) w 1354 [some (.ref b), some (.ref xa), some (.ref A.1), some (.int (nI i))] [] := by
  refine g_aload_n (pc' := 1355) dL_law_1354 rfl rfl rfl ?_
  refine g_callV (pc' := 1358) (mx := mdX0_undo) (as := []) (wX0_undo g _ xa h1) oX0_undo ⟨Nat.le_of_ble_eq_true rfl, Nat.le_of_ble_eq_true rfl⟩ dL_law_1355 rfl (ci := 0) rfl hxa ⟨by decide +kernel, by decide +kernel⟩ oX0_undo.2.2.2 rfl q1018 q1019 q1020 q1020 q1019 (Nat.le_of_ble_eq_true rfl) (Nat.le_of_ble_eq_true rfl) (g_rI ?_) g_nt rfl
  rw [← h2]
  refine g_aload_n (pc' := 1359) dL_law_1358 rfl rfl rfl ?_
  refine g_callV (pc' := 1362) (mx := mdX3_undo) (as := []) (wX3_undo g hA w1 M h3) oX3_undo ⟨Nat.le_of_ble_eq_true rfl, Nat.le_of_ble_eq_true rfl⟩ dL_law_1359 rfl (ci := 3) rfl tC ⟨by decide +kernel, by decide +kernel⟩ oX3_undo.2.2.2 rfl q1521 q1522 q1523 q1523 q1522 (Nat.le_of_ble_eq_true rfl) (Nat.le_of_ble_eq_true rfl) (g_rI ?_) g_nt rfl
  refine g_icmp_eq (tgt := 1426) (pc' := 1365) dL_law_1362 (by decide) rfl (fun _ => kk) (fun h => absurd rfl h)
set_option maxHeartbeats 4000000 in
theorem lc38 {g : bGh} {A : tA} (hA : tO A) {n0 u0 : Nat} {Q : Outcome → bWl → Prop} {xa b Ln i : Nat} {xs : Nat → Int32} {w w1 : bWl} {M M' : tM} {r : Int32} (hX : scrAt g b Ln xs) (hi : i + 5 < Ln) (hL : Ln ≤ 384) (hxa : hC w xa = some 0) (h1 : fX0_tear w xa = some (r, w1)) (h2 : tW A M w1 = w1) (h3 : fX3_tear M = some (r, M')) (kk : bG (g, mdL, n0, u0, Q) (tW A M' w1) 1426 [some (.ref b), some (.ref xa), some (.ref A.1), some (.int (nI i))] []) : bG (g, mdL, n0, u0, Q) w 1367 [some (.ref b), some (.ref xa), some (.ref A.1), some (.int (nI i))] [] := by
  refine g_aload_n (pc' := 1368) dL_law_1367 rfl rfl rfl ?_
  refine g_callV (pc' := 1371) (mx := mdX0_tear) (as := []) (wX0_tear g _ xa h1) oX0_tear ⟨Nat.le_of_ble_eq_true rfl, Nat.le_of_ble_eq_true rfl⟩ dL_law_1368 rfl (ci := 0) rfl hxa ⟨by decide +kernel, by decide +kernel⟩ oX0_tear.2.2.2 rfl q1022 q1023 q1024 q1024 q1023 (Nat.le_of_ble_eq_true rfl) (Nat.le_of_ble_eq_true rfl) (g_rI ?_) g_nt rfl
  rw [← h2]
  refine g_aload_n (pc' := 1372) dL_law_1371 rfl rfl rfl ?_
  refine g_callV (pc' := 1375) (mx := mdX3_tear) (as := []) (wX3_tear g hA w1 M h3) oX3_tear ⟨Nat.le_of_ble_eq_true rfl, Nat.le_of_ble_eq_true rfl⟩ dL_law_1372 rfl (ci := 3) rfl tC ⟨by decide +kernel, by decide +kernel⟩ oX3_tear.2.2.2 rfl q1525 q1526 q1527 q1527 q1526 (Nat.le_of_ble_eq_true rfl) (Nat.le_of_ble_eq_true rfl) (g_rI ?_) g_nt rfl
  refine g_icmp_eq (tgt := 1426) (pc' := 1378) dL_law_1375 (by decide) rfl (fun _ => kk) (fun h => absurd rfl h)
set_option maxHeartbeats 4000000 in
theorem lc39 {g : bGh} {A : tA} (hA : tO A) {n0 u0 : Nat} {Q : Outcome → bWl → Prop} {xa b Ln i : Nat} {xs : Nat → Int32} {w w1 : bWl} {M M' : tM} {r : Int32} (hX : scrAt g b Ln xs) (hi : i + 5 < Ln) (hL : Ln ≤ 384) (hxa : hC w xa = some 0) (h1 : fX0_count w xa (xs (i + 1)) = some (r, w1)) (h2 : tW A M w1 = w1) (h3 : fX3_count M (xs (i + 1)) = some (r, M')) (kk : bG (g, mdL, n0, u0, Q) (tW A M' w1) 1426 [some (.ref b), some (.ref xa), some (.ref A.1), some (.int (nI i))] []) : bG (g, mdL, n0, u0, Q) w 1380 [some (.ref b), some (.ref xa), some (.ref A.1), some (.int (nI i))] [] := by
  refine g_aload_n (pc' := 1381) dL_law_1380 rfl rfl rfl ?_
  refine g_aload_n (pc' := 1382) dL_law_1381 rfl rfl rfl ?_
  refine g_iload_n (pc' := 1383) dL_law_1382 rfl rfl rfl ?_
  refine g_iconst (pc' := 1384) (v := 1) dL_law_1383 rfl (by decide) ?_
  refine g_iadd (pc' := 1385) dL_law_1384 rfl ?_
  refine g_sld (pc' := 1386) (v := xs (i + 1)) hX (sc_in (d := 1) rfl hi hL (by decide)) dL_law_1385 rfl (congrArg xs (sc_cl (d := 1) rfl (by omega))) ?_
  refine g_callV (pc' := 1389) (mx := mdX0_count) (as := [.int (xs (i + 1))]) (wX0_count g _ xa (xs (i + 1)) h1) oX0_count ⟨Nat.le_of_ble_eq_true rfl, Nat.le_of_ble_eq_true rfl⟩ dL_law_1386 rfl (ci := 0) rfl hxa ⟨by decide +kernel, by decide +kernel⟩ oX0_count.2.2.2 rfl q1026 q1027 q1028 q1028 q1027 (Nat.le_of_ble_eq_true rfl) (Nat.le_of_ble_eq_true rfl) (g_rI ?_) g_nt rfl
  rw [← h2]
  refine g_aload_n (pc' := 1390) dL_law_1389 rfl rfl rfl ?_
  refine g_aload_n (pc' := 1391) dL_law_1390 rfl rfl rfl ?_
  refine g_iload_n (pc' := 1392) dL_law_1391 rfl rfl rfl ?_
  refine g_iconst (pc' := 1393) (v := 1) dL_law_1392 rfl (by decide) ?_
  refine g_iadd (pc' := 1394) dL_law_1393 rfl ?_
  refine g_sld (pc' := 1395) (v := xs (i + 1)) hX (sc_in (d := 1) rfl hi hL (by decide)) dL_law_1394 rfl (congrArg xs (sc_cl (d := 1) rfl (by omega))) ?_
  refine g_callV (pc' := 1398) (mx := mdX3_count) (as := [.int (xs (i + 1))]) (wX3_count g hA w1 M (xs (i + 1)) h3) oX3_count ⟨Nat.le_of_ble_eq_true rfl, Nat.le_of_ble_eq_true rfl⟩ dL_law_1395 rfl (ci := 3) rfl tC ⟨by decide +kernel, by decide +kernel⟩ oX3_count.2.2.2 rfl q1529 q1530 q1531 q1531 q1530 (Nat.le_of_ble_eq_true rfl) (Nat.le_of_ble_eq_true rfl) (g_rI ?_) g_nt rfl
  refine g_icmp_eq (tgt := 1426) (pc' := 1401) dL_law_1398 (by decide) rfl (fun _ => kk) (fun h => absurd rfl h)
set_option maxHeartbeats 4000000 in
theorem lc40 {g : bGh} {A : tA} (hA : tO A) {n0 u0 : Nat} {Q : Outcome → bWl → Prop} {xa b Ln i : Nat} {xs : Nat → Int32} {w w1 : bWl} {M M' : tM} {r : Int32} (hX : scrAt g b Ln xs) (hi : i + 5 < Ln) (hL : Ln ≤ 384) (hxa : hC w xa = some 0) (h1 : fX0_status w xa (xs (i + 1)) = some (r, w1)) (h2 : tW A M w1 = w1) (h3 : fX3_status M (xs (i + 1)) = some (r, M')) (kk : bG (g, mdL, n0, u0, Q) (tW A M' w1) 1426 [some (.ref b), some (.ref xa), some (.ref A.1), some (.int (nI i))] []) : bG (g, mdL, n0, u0, Q) w 1403 [some (.ref b), some (.ref xa), some (.ref A.1), some (.int (nI i))] [] := by
  refine g_aload_n (pc' := 1404) dL_law_1403 rfl rfl rfl ?_
  refine g_aload_n (pc' := 1405) dL_law_1404 rfl rfl rfl ?_
  refine g_iload_n (pc' := 1406) dL_law_1405 rfl rfl rfl ?_
  refine g_iconst (pc' := 1407) (v := 1) dL_law_1406 rfl (by decide) ?_
  refine g_iadd (pc' := 1408) dL_law_1407 rfl ?_
  refine g_sld (pc' := 1409) (v := xs (i + 1)) hX (sc_in (d := 1) rfl hi hL (by decide)) dL_law_1408 rfl (congrArg xs (sc_cl (d := 1) rfl (by omega))) ?_
  refine g_callV (pc' := 1412) (mx := mdX0_status) (as := [.int (xs (i + 1))]) (wX0_status g _ xa (xs (i + 1)) h1) oX0_status ⟨Nat.le_of_ble_eq_true rfl, Nat.le_of_ble_eq_true rfl⟩ dL_law_1409 rfl (ci := 0) rfl hxa ⟨by decide +kernel, by decide +kernel⟩ oX0_status.2.2.2 rfl q1034 q1035 q1036 q1036 q1035 (Nat.le_of_ble_eq_true rfl) (Nat.le_of_ble_eq_true rfl) (g_rI ?_) g_nt rfl
  rw [← h2]
  refine g_aload_n (pc' := 1413) dL_law_1412 rfl rfl rfl ?_
  refine g_aload_n (pc' := 1414) dL_law_1413 rfl rfl rfl ?_
  refine g_iload_n (pc' := 1415) dL_law_1414 rfl rfl rfl ?_
  refine g_iconst (pc' := 1416) (v := 1) dL_law_1415 rfl (by decide) ?_
  refine g_iadd (pc' := 1417) dL_law_1416 rfl ?_
  refine g_sld (pc' := 1418) (v := xs (i + 1)) hX (sc_in (d := 1) rfl hi hL (by decide)) dL_law_1417 rfl (congrArg xs (sc_cl (d := 1) rfl (by omega))) ?_
  refine g_callV (pc' := 1421) (mx := mdX3_status) (as := [.int (xs (i + 1))]) (wX3_status g hA w1 M (xs (i + 1)) h3) oX3_status ⟨Nat.le_of_ble_eq_true rfl, Nat.le_of_ble_eq_true rfl⟩ dL_law_1418 rfl (ci := 3) rfl tC ⟨by decide +kernel, by decide +kernel⟩ oX3_status.2.2.2 rfl q1537 q1538 q1539 q1539 q1538 (Nat.le_of_ble_eq_true rfl) (Nat.le_of_ble_eq_true rfl) (g_rI ?_) g_nt rfl
  refine g_icmp_eq (tgt := 1426) (pc' := 1424) dL_law_1421 (by decide) rfl (fun _ => kk) (fun h => absurd rfl h)
