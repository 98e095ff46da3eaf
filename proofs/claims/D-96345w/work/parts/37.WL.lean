set_option maxRecDepth 20000 in
set_option maxHeartbeats 4000000 in
theorem W_L_law_204 {κ : ah_C} {rr : (Int32 × ah_S)} (hκ : ah_res κ = (.returned (some (.int rr.1)), rr.2)) (hso : ah_kso κ) {sb sL : Nat} {sx : Nat → Int32} (hsc : ah_scr κ sb sL sx) {k1483 : ah_S → Option Nat → Option Nat → Int32 → Option (Int32 × ah_S)} (hk1483 : ∀ (σ : ah_S) (r1 : Option Nat) (r2 : Option Nat) (x3 : Int32), k1483 σ r1 r2 x3 = some rr → ah_G κ ("LeftAsFoundLaw", "law", 4, (some FieldType.boolean), [], 2048, 84000) cL_law σ 1483 [some (va_rf (some sb)), some (va_rf r1), some (va_rf r2), some (.int x3)] []) : ∀ (σ : ah_S) (r1 : Option Nat) (r2 : Option Nat) (x3 : Int32), F_L_law_204 sL sx k1483 σ r1 r2 x3 = some rr → ah_G κ ("LeftAsFoundLaw", "law", 4, (some FieldType.boolean), [], 2048, 84000) cL_law σ 204 [some (va_rf (some sb)), some (va_rf r1), some (va_rf r2), some (.int x3)] [] := by
  intro σ r1 r2 x3 h
  unfold F_L_law_204 at h
  refine ro_aload_n (pc' := 205) dL_law_204 rfl rfl rfl ?_
  refine ro_aload_n (pc' := 206) dL_law_205 rfl rfl rfl ?_
  refine ro_iload_n (pc' := 207) dL_law_206 rfl rfl rfl ?_
  refine ro_iconst (pc' := 208) dL_law_207 ic_1 rfl ?_
  refine ro_iadd (pc' := 209) dL_law_208 rfl ?_
  obtain ⟨v1, hv1, h⟩ := ah_bs h
  refine ro_sld (pc' := 210) hsc dL_law_209 rfl hv1 ?_
  refine ro_aload_n (pc' := 211) dL_law_210 rfl rfl rfl ?_
  refine ro_iload_n (pc' := 212) dL_law_211 rfl rfl rfl ?_
  refine ro_iconst (pc' := 213) dL_law_212 ic_2 rfl ?_
  refine ro_iadd (pc' := 214) dL_law_213 rfl ?_
  obtain ⟨v2, hv2, h⟩ := ah_bs h
  refine ro_sld (pc' := 215) hsc dL_law_214 rfl hv2 ?_
  obtain ⟨u3, hu3, h⟩ := ah_bs h
  obtain ⟨v4, σ5, hv4, h⟩ := ah_bs2 h
  refine ro_callV (pc' := 218) (As := [.int v1, .int v2]) (rest := []) (st' := [.int v4]) (by decide) hu3 q432 sl_X0_guest (M_X0_guest hv4) q431 q434 q95 dd_X0_guest rfl ⟨Nat.le_of_ble_eq_true rfl, Nat.le_of_ble_eq_true rfl⟩ (Nat.le_of_ble_eq_true rfl) dL_law_215 rfl rfl rfl ?_
  refine ro_aload_n (pc' := 219) dL_law_218 rfl rfl rfl ?_
  refine ro_aload_n (pc' := 220) dL_law_219 rfl rfl rfl ?_
  refine ro_iload_n (pc' := 221) dL_law_220 rfl rfl rfl ?_
  refine ro_iconst (pc' := 222) dL_law_221 ic_1 rfl ?_
  refine ro_iadd (pc' := 223) dL_law_222 rfl ?_
  obtain ⟨v6, hv6, h⟩ := ah_bs h
  refine ro_sld (pc' := 224) hsc dL_law_223 rfl hv6 ?_
  refine ro_aload_n (pc' := 225) dL_law_224 rfl rfl rfl ?_
  refine ro_iload_n (pc' := 226) dL_law_225 rfl rfl rfl ?_
  refine ro_iconst (pc' := 227) dL_law_226 ic_2 rfl ?_
  refine ro_iadd (pc' := 228) dL_law_227 rfl ?_
  obtain ⟨v7, hv7, h⟩ := ah_bs h
  refine ro_sld (pc' := 229) hsc dL_law_228 rfl hv7 ?_
  obtain ⟨u8, hu8, h⟩ := ah_bs h
  obtain ⟨v9, σ10, hv9, h⟩ := ah_bs2 h
  refine ro_callV (pc' := 232) (As := [.int v6, .int v7]) (rest := [.int v4]) (st' := [.int v9, .int v4]) (by decide) hu8 q1490 sl_X6_guest (M_X6_guest hv9) q1489 q1492 q104 dd_X6_guest rfl ⟨Nat.le_of_ble_eq_true rfl, Nat.le_of_ble_eq_true rfl⟩ (Nat.le_of_ble_eq_true rfl) dL_law_229 rfl rfl rfl ?_
  refine ro_icmp_eq (pc' := 235) (tgt := 1483) dL_law_232 rfl rfl (fun c => ?_) (fun c => ?_)
  · replace h := ah_ip c h
    exact hk1483 _ _ _ _ h
  · replace h := ah_in_ c h
    refine ro_iconst (pc' := 236) dL_law_235 ic_0 rfl ?_
    obtain rfl := Option.some.inj h
    exact ro_zret rfl hκ dL_law_236
set_option maxRecDepth 20000 in
set_option maxHeartbeats 4000000 in
theorem W_L_law_237 {κ : ah_C} {rr : (Int32 × ah_S)} (hκ : ah_res κ = (.returned (some (.int rr.1)), rr.2)) (hso : ah_kso κ) {sb sL : Nat} {sx : Nat → Int32} (hsc : ah_scr κ sb sL sx) {k1483 : ah_S → Option Nat → Option Nat → Int32 → Option (Int32 × ah_S)} (hk1483 : ∀ (σ : ah_S) (r1 : Option Nat) (r2 : Option Nat) (x3 : Int32), k1483 σ r1 r2 x3 = some rr → ah_G κ ("LeftAsFoundLaw", "law", 4, (some FieldType.boolean), [], 2048, 84000) cL_law σ 1483 [some (va_rf (some sb)), some (va_rf r1), some (va_rf r2), some (.int x3)] []) : ∀ (σ : ah_S) (r1 : Option Nat) (r2 : Option Nat) (x3 : Int32), F_L_law_237 sL sx k1483 σ r1 r2 x3 = some rr → ah_G κ ("LeftAsFoundLaw", "law", 4, (some FieldType.boolean), [], 2048, 84000) cL_law σ 237 [some (va_rf (some sb)), some (va_rf r1), some (va_rf r2), some (.int x3)] [] := by
  intro σ r1 r2 x3 h
  unfold F_L_law_237 at h
  refine ro_aload_n (pc' := 238) dL_law_237 rfl rfl rfl ?_
  refine ro_aload_n (pc' := 239) dL_law_238 rfl rfl rfl ?_
  refine ro_iload_n (pc' := 240) dL_law_239 rfl rfl rfl ?_
  refine ro_iconst (pc' := 241) dL_law_240 ic_1 rfl ?_
  refine ro_iadd (pc' := 242) dL_law_241 rfl ?_
  obtain ⟨v1, hv1, h⟩ := ah_bs h
  refine ro_sld (pc' := 243) hsc dL_law_242 rfl hv1 ?_
  refine ro_aload_n (pc' := 244) dL_law_243 rfl rfl rfl ?_
  refine ro_iload_n (pc' := 245) dL_law_244 rfl rfl rfl ?_
  refine ro_iconst (pc' := 246) dL_law_245 ic_2 rfl ?_
  refine ro_iadd (pc' := 247) dL_law_246 rfl ?_
  obtain ⟨v2, hv2, h⟩ := ah_bs h
  refine ro_sld (pc' := 248) hsc dL_law_247 rfl hv2 ?_
  refine ro_aload_n (pc' := 249) dL_law_248 rfl rfl rfl ?_
  refine ro_iload_n (pc' := 250) dL_law_249 rfl rfl rfl ?_
  refine ro_iconst (pc' := 251) dL_law_250 ic_3 rfl ?_
  refine ro_iadd (pc' := 252) dL_law_251 rfl ?_
  obtain ⟨v3, hv3, h⟩ := ah_bs h
  refine ro_sld (pc' := 253) hsc dL_law_252 rfl hv3 ?_
  obtain ⟨u4, hu4, h⟩ := ah_bs h
  obtain ⟨v5, σ6, hv5, h⟩ := ah_bs2 h
  refine ro_callVW (pc' := 256) (As := [.int v1, .int v2, .int v3]) (rest := []) (st' := [.int v5]) (by decide) hu4 q467 sl_X0_guests (M_X0_guests hv5) q466 q469 q95 dd_X0_guests rfl ⟨Nat.le_of_ble_eq_true rfl, Nat.le_of_ble_eq_true rfl⟩ (Nat.le_of_ble_eq_true rfl) dL_law_253 rfl rfl rfl ?_
  refine ro_aload_n (pc' := 257) dL_law_256 rfl rfl rfl ?_
  refine ro_aload_n (pc' := 258) dL_law_257 rfl rfl rfl ?_
  refine ro_iload_n (pc' := 259) dL_law_258 rfl rfl rfl ?_
  refine ro_iconst (pc' := 260) dL_law_259 ic_1 rfl ?_
  refine ro_iadd (pc' := 261) dL_law_260 rfl ?_
  obtain ⟨v7, hv7, h⟩ := ah_bs h
  refine ro_sld (pc' := 262) hsc dL_law_261 rfl hv7 ?_
  refine ro_aload_n (pc' := 263) dL_law_262 rfl rfl rfl ?_
  refine ro_iload_n (pc' := 264) dL_law_263 rfl rfl rfl ?_
  refine ro_iconst (pc' := 265) dL_law_264 ic_2 rfl ?_
  refine ro_iadd (pc' := 266) dL_law_265 rfl ?_
  obtain ⟨v8, hv8, h⟩ := ah_bs h
  refine ro_sld (pc' := 267) hsc dL_law_266 rfl hv8 ?_
  refine ro_aload_n (pc' := 268) dL_law_267 rfl rfl rfl ?_
  refine ro_iload_n (pc' := 269) dL_law_268 rfl rfl rfl ?_
  refine ro_iconst (pc' := 270) dL_law_269 ic_3 rfl ?_
  refine ro_iadd (pc' := 271) dL_law_270 rfl ?_
  obtain ⟨v9, hv9, h⟩ := ah_bs h
  refine ro_sld (pc' := 272) hsc dL_law_271 rfl hv9 ?_
  obtain ⟨u10, hu10, h⟩ := ah_bs h
  obtain ⟨v11, σ12, hv11, h⟩ := ah_bs2 h
  refine ro_callV (pc' := 275) (As := [.int v7, .int v8, .int v9]) (rest := [.int v5]) (st' := [.int v11, .int v5]) (by decide) hu10 q1501 sl_X6_guests (M_X6_guests hv11) q1500 q1503 q104 dd_X6_guests rfl ⟨Nat.le_of_ble_eq_true rfl, Nat.le_of_ble_eq_true rfl⟩ (Nat.le_of_ble_eq_true rfl) dL_law_272 rfl rfl rfl ?_
  refine ro_icmp_eq (pc' := 278) (tgt := 1483) dL_law_275 rfl rfl (fun c => ?_) (fun c => ?_)
  · replace h := ah_ip c h
    exact hk1483 _ _ _ _ h
  · replace h := ah_in_ c h
    refine ro_iconst (pc' := 279) dL_law_278 ic_0 rfl ?_
    obtain rfl := Option.some.inj h
    exact ro_zret rfl hκ dL_law_279
set_option maxRecDepth 20000 in
set_option maxHeartbeats 4000000 in
theorem W_L_law_280 {κ : ah_C} {rr : (Int32 × ah_S)} (hκ : ah_res κ = (.returned (some (.int rr.1)), rr.2)) (hso : ah_kso κ) {sb sL : Nat} {sx : Nat → Int32} (hsc : ah_scr κ sb sL sx) {k1483 : ah_S → Option Nat → Option Nat → Int32 → Option (Int32 × ah_S)} (hk1483 : ∀ (σ : ah_S) (r1 : Option Nat) (r2 : Option Nat) (x3 : Int32), k1483 σ r1 r2 x3 = some rr → ah_G κ ("LeftAsFoundLaw", "law", 4, (some FieldType.boolean), [], 2048, 84000) cL_law σ 1483 [some (va_rf (some sb)), some (va_rf r1), some (va_rf r2), some (.int x3)] []) : ∀ (σ : ah_S) (r1 : Option Nat) (r2 : Option Nat) (x3 : Int32), F_L_law_280 sL sx k1483 σ r1 r2 x3 = some rr → ah_G κ ("LeftAsFoundLaw", "law", 4, (some FieldType.boolean), [], 2048, 84000) cL_law σ 280 [some (va_rf (some sb)), some (va_rf r1), some (va_rf r2), some (.int x3)] [] := by
  intro σ r1 r2 x3 h
  unfold F_L_law_280 at h
  refine ro_aload_n (pc' := 281) dL_law_280 rfl rfl rfl ?_
  refine ro_aload_n (pc' := 282) dL_law_281 rfl rfl rfl ?_
  refine ro_iload_n (pc' := 283) dL_law_282 rfl rfl rfl ?_
  refine ro_iconst (pc' := 284) dL_law_283 ic_1 rfl ?_
  refine ro_iadd (pc' := 285) dL_law_284 rfl ?_
  obtain ⟨v1, hv1, h⟩ := ah_bs h
  refine ro_sld (pc' := 286) hsc dL_law_285 rfl hv1 ?_
  refine ro_aload_n (pc' := 287) dL_law_286 rfl rfl rfl ?_
  refine ro_iload_n (pc' := 288) dL_law_287 rfl rfl rfl ?_
  refine ro_iconst (pc' := 289) dL_law_288 ic_2 rfl ?_
  refine ro_iadd (pc' := 290) dL_law_289 rfl ?_
  obtain ⟨v2, hv2, h⟩ := ah_bs h
  refine ro_sld (pc' := 291) hsc dL_law_290 rfl hv2 ?_
  refine ro_aload_n (pc' := 292) dL_law_291 rfl rfl rfl ?_
  refine ro_iload_n (pc' := 293) dL_law_292 rfl rfl rfl ?_
  refine ro_iconst (pc' := 294) dL_law_293 ic_3 rfl ?_
  refine ro_iadd (pc' := 295) dL_law_294 rfl ?_
  obtain ⟨v3, hv3, h⟩ := ah_bs h
  refine ro_sld (pc' := 296) hsc dL_law_295 rfl hv3 ?_
  obtain ⟨u4, hu4, h⟩ := ah_bs h
  obtain ⟨v5, σ6, hv5, h⟩ := ah_bs2 h
  refine ro_callV (pc' := 299) (As := [.int v1, .int v2, .int v3]) (rest := []) (st' := [.int v5]) (by decide) hu4 q489 sl_X0_mend (M_X0_mend hv5) q488 q491 q95 dd_X0_mend rfl ⟨Nat.le_of_ble_eq_true rfl, Nat.le_of_ble_eq_true rfl⟩ (Nat.le_of_ble_eq_true rfl) dL_law_296 rfl rfl rfl ?_
  refine ro_aload_n (pc' := 300) dL_law_299 rfl rfl rfl ?_
  refine ro_aload_n (pc' := 301) dL_law_300 rfl rfl rfl ?_
  refine ro_iload_n (pc' := 302) dL_law_301 rfl rfl rfl ?_
  refine ro_iconst (pc' := 303) dL_law_302 ic_1 rfl ?_
  refine ro_iadd (pc' := 304) dL_law_303 rfl ?_
  obtain ⟨v7, hv7, h⟩ := ah_bs h
  refine ro_sld (pc' := 305) hsc dL_law_304 rfl hv7 ?_
  refine ro_aload_n (pc' := 306) dL_law_305 rfl rfl rfl ?_
  refine ro_iload_n (pc' := 307) dL_law_306 rfl rfl rfl ?_
  refine ro_iconst (pc' := 308) dL_law_307 ic_2 rfl ?_
  refine ro_iadd (pc' := 309) dL_law_308 rfl ?_
  obtain ⟨v8, hv8, h⟩ := ah_bs h
  refine ro_sld (pc' := 310) hsc dL_law_309 rfl hv8 ?_
  refine ro_aload_n (pc' := 311) dL_law_310 rfl rfl rfl ?_
  refine ro_iload_n (pc' := 312) dL_law_311 rfl rfl rfl ?_
  refine ro_iconst (pc' := 313) dL_law_312 ic_3 rfl ?_
  refine ro_iadd (pc' := 314) dL_law_313 rfl ?_
  obtain ⟨v9, hv9, h⟩ := ah_bs h
  refine ro_sld (pc' := 315) hsc dL_law_314 rfl hv9 ?_
  obtain ⟨u10, hu10, h⟩ := ah_bs h
  obtain ⟨v11, σ12, hv11, h⟩ := ah_bs2 h
  refine ro_callV (pc' := 318) (As := [.int v7, .int v8, .int v9]) (rest := [.int v5]) (st' := [.int v11, .int v5]) (by decide) hu10 q1524 sl_X6_mend (M_X6_mend hv11) q1523 q1526 q104 dd_X6_mend rfl ⟨Nat.le_of_ble_eq_true rfl, Nat.le_of_ble_eq_true rfl⟩ (Nat.le_of_ble_eq_true rfl) dL_law_315 rfl rfl rfl ?_
  refine ro_icmp_eq (pc' := 321) (tgt := 1483) dL_law_318 rfl rfl (fun c => ?_) (fun c => ?_)
  · replace h := ah_ip c h
    exact hk1483 _ _ _ _ h
  · replace h := ah_in_ c h
    refine ro_iconst (pc' := 322) dL_law_321 ic_0 rfl ?_
    obtain rfl := Option.some.inj h
    exact ro_zret rfl hκ dL_law_322
set_option maxRecDepth 20000 in
set_option maxHeartbeats 4000000 in
theorem W_L_law_323 {κ : ah_C} {rr : (Int32 × ah_S)} (hκ : ah_res κ = (.returned (some (.int rr.1)), rr.2)) (hso : ah_kso κ) {sb sL : Nat} {sx : Nat → Int32} (hsc : ah_scr κ sb sL sx) {k1483 : ah_S → Option Nat → Option Nat → Int32 → Option (Int32 × ah_S)} (hk1483 : ∀ (σ : ah_S) (r1 : Option Nat) (r2 : Option Nat) (x3 : Int32), k1483 σ r1 r2 x3 = some rr → ah_G κ ("LeftAsFoundLaw", "law", 4, (some FieldType.boolean), [], 2048, 84000) cL_law σ 1483 [some (va_rf (some sb)), some (va_rf r1), some (va_rf r2), some (.int x3)] []) : ∀ (σ : ah_S) (r1 : Option Nat) (r2 : Option Nat) (x3 : Int32), F_L_law_323 sL sx k1483 σ r1 r2 x3 = some rr → ah_G κ ("LeftAsFoundLaw", "law", 4, (some FieldType.boolean), [], 2048, 84000) cL_law σ 323 [some (va_rf (some sb)), some (va_rf r1), some (va_rf r2), some (.int x3)] [] := by
  intro σ r1 r2 x3 h
  unfold F_L_law_323 at h
  refine ro_aload_n (pc' := 324) dL_law_323 rfl rfl rfl ?_
  refine ro_aload_n (pc' := 325) dL_law_324 rfl rfl rfl ?_
  refine ro_iload_n (pc' := 326) dL_law_325 rfl rfl rfl ?_
  refine ro_iconst (pc' := 327) dL_law_326 ic_1 rfl ?_
  refine ro_iadd (pc' := 328) dL_law_327 rfl ?_
  obtain ⟨v1, hv1, h⟩ := ah_bs h
  refine ro_sld (pc' := 329) hsc dL_law_328 rfl hv1 ?_
  refine ro_aload_n (pc' := 330) dL_law_329 rfl rfl rfl ?_
  refine ro_iload_n (pc' := 331) dL_law_330 rfl rfl rfl ?_
  refine ro_iconst (pc' := 332) dL_law_331 ic_2 rfl ?_
  refine ro_iadd (pc' := 333) dL_law_332 rfl ?_
  obtain ⟨v2, hv2, h⟩ := ah_bs h
  refine ro_sld (pc' := 334) hsc dL_law_333 rfl hv2 ?_
  obtain ⟨u3, hu3, h⟩ := ah_bs h
  obtain ⟨v4, σ5, hv4, h⟩ := ah_bs2 h
  refine ro_callV (pc' := 337) (As := [.int v1, .int v2]) (rest := []) (st' := [.int v4]) (by decide) hu3 q515 sl_X0_of (M_X0_of hv4) q514 q517 q95 dd_X0_of rfl ⟨Nat.le_of_ble_eq_true rfl, Nat.le_of_ble_eq_true rfl⟩ (Nat.le_of_ble_eq_true rfl) dL_law_334 rfl rfl rfl ?_
  refine ro_aload_n (pc' := 338) dL_law_337 rfl rfl rfl ?_
  refine ro_aload_n (pc' := 339) dL_law_338 rfl rfl rfl ?_
  refine ro_iload_n (pc' := 340) dL_law_339 rfl rfl rfl ?_
  refine ro_iconst (pc' := 341) dL_law_340 ic_1 rfl ?_
  refine ro_iadd (pc' := 342) dL_law_341 rfl ?_
  obtain ⟨v6, hv6, h⟩ := ah_bs h
  refine ro_sld (pc' := 343) hsc dL_law_342 rfl hv6 ?_
  refine ro_aload_n (pc' := 344) dL_law_343 rfl rfl rfl ?_
  refine ro_iload_n (pc' := 345) dL_law_344 rfl rfl rfl ?_
  refine ro_iconst (pc' := 346) dL_law_345 ic_2 rfl ?_
  refine ro_iadd (pc' := 347) dL_law_346 rfl ?_
  obtain ⟨v7, hv7, h⟩ := ah_bs h
  refine ro_sld (pc' := 348) hsc dL_law_347 rfl hv7 ?_
  obtain ⟨u8, hu8, h⟩ := ah_bs h
  obtain ⟨v9, σ10, hv9, h⟩ := ah_bs2 h
  refine ro_callV (pc' := 351) (As := [.int v6, .int v7]) (rest := [.int v4]) (st' := [.int v9, .int v4]) (by decide) hu8 q1554 sl_X6_of (M_X6_of hv9) q1553 q1556 q104 dd_X6_of rfl ⟨Nat.le_of_ble_eq_true rfl, Nat.le_of_ble_eq_true rfl⟩ (Nat.le_of_ble_eq_true rfl) dL_law_348 rfl rfl rfl ?_
  refine ro_icmp_eq (pc' := 354) (tgt := 1483) dL_law_351 rfl rfl (fun c => ?_) (fun c => ?_)
  · replace h := ah_ip c h
    exact hk1483 _ _ _ _ h
  · replace h := ah_in_ c h
    refine ro_iconst (pc' := 355) dL_law_354 ic_0 rfl ?_
    obtain rfl := Option.some.inj h
    exact ro_zret rfl hκ dL_law_355
set_option maxRecDepth 20000 in
set_option maxHeartbeats 4000000 in
theorem W_L_law_356 {κ : ah_C} {rr : (Int32 × ah_S)} (hκ : ah_res κ = (.returned (some (.int rr.1)), rr.2)) (hso : ah_kso κ) {sb sL : Nat} {sx : Nat → Int32} (hsc : ah_scr κ sb sL sx) {k1483 : ah_S → Option Nat → Option Nat → Int32 → Option (Int32 × ah_S)} (hk1483 : ∀ (σ : ah_S) (r1 : Option Nat) (r2 : Option Nat) (x3 : Int32), k1483 σ r1 r2 x3 = some rr → ah_G κ ("LeftAsFoundLaw", "law", 4, (some FieldType.boolean), [], 2048, 84000) cL_law σ 1483 [some (va_rf (some sb)), some (va_rf r1), some (va_rf r2), some (.int x3)] []) : ∀ (σ : ah_S) (r1 : Option Nat) (r2 : Option Nat) (x3 : Int32), F_L_law_356 sL sx k1483 σ r1 r2 x3 = some rr → ah_G κ ("LeftAsFoundLaw", "law", 4, (some FieldType.boolean), [], 2048, 84000) cL_law σ 356 [some (va_rf (some sb)), some (va_rf r1), some (va_rf r2), some (.int x3)] [] := by
  intro σ r1 r2 x3 h
  unfold F_L_law_356 at h
  refine ro_aload_n (pc' := 357) dL_law_356 rfl rfl rfl ?_
  refine ro_aload_n (pc' := 358) dL_law_357 rfl rfl rfl ?_
  refine ro_iload_n (pc' := 359) dL_law_358 rfl rfl rfl ?_
  refine ro_iconst (pc' := 360) dL_law_359 ic_1 rfl ?_
  refine ro_iadd (pc' := 361) dL_law_360 rfl ?_
  obtain ⟨v1, hv1, h⟩ := ah_bs h
  refine ro_sld (pc' := 362) hsc dL_law_361 rfl hv1 ?_
  obtain ⟨u2, hu2, h⟩ := ah_bs h
  obtain ⟨v3, σ4, hv3, h⟩ := ah_bs2 h
  refine ro_callV (pc' := 365) (As := [.int v1]) (rest := []) (st' := [.int v3]) (by decide) hu2 q424 sl_X0_feed (M_X0_feed hv3) q423 q426 q95 dd_X0_feed rfl ⟨Nat.le_of_ble_eq_true rfl, Nat.le_of_ble_eq_true rfl⟩ (Nat.le_of_ble_eq_true rfl) dL_law_362 rfl rfl rfl ?_
  refine ro_aload_n (pc' := 366) dL_law_365 rfl rfl rfl ?_
  refine ro_aload_n (pc' := 367) dL_law_366 rfl rfl rfl ?_
  refine ro_iload_n (pc' := 368) dL_law_367 rfl rfl rfl ?_
  refine ro_iconst (pc' := 369) dL_law_368 ic_1 rfl ?_
  refine ro_iadd (pc' := 370) dL_law_369 rfl ?_
  obtain ⟨v5, hv5, h⟩ := ah_bs h
  refine ro_sld (pc' := 371) hsc dL_law_370 rfl hv5 ?_
  obtain ⟨u6, hu6, h⟩ := ah_bs h
  obtain ⟨v7, σ8, hv7, h⟩ := ah_bs2 h
  refine ro_callV (pc' := 374) (As := [.int v5]) (rest := [.int v3]) (st' := [.int v7, .int v3]) (by decide) hu6 q1558 sl_X6_feed (M_X6_feed hv7) q1557 q1560 q104 dd_X6_feed rfl ⟨Nat.le_of_ble_eq_true rfl, Nat.le_of_ble_eq_true rfl⟩ (Nat.le_of_ble_eq_true rfl) dL_law_371 rfl rfl rfl ?_
  refine ro_icmp_eq (pc' := 377) (tgt := 1483) dL_law_374 rfl rfl (fun c => ?_) (fun c => ?_)
  · replace h := ah_ip c h
    exact hk1483 _ _ _ _ h
  · replace h := ah_in_ c h
    refine ro_iconst (pc' := 378) dL_law_377 ic_0 rfl ?_
    obtain rfl := Option.some.inj h
    exact ro_zret rfl hκ dL_law_378
set_option maxRecDepth 20000 in
set_option maxHeartbeats 4000000 in
theorem W_L_law_379 {κ : ah_C} {rr : (Int32 × ah_S)} (hκ : ah_res κ = (.returned (some (.int rr.1)), rr.2)) (hso : ah_kso κ) {sb sL : Nat} {sx : Nat → Int32} (hsc : ah_scr κ sb sL sx) {k1483 : ah_S → Option Nat → Option Nat → Int32 → Option (Int32 × ah_S)} (hk1483 : ∀ (σ : ah_S) (r1 : Option Nat) (r2 : Option Nat) (x3 : Int32), k1483 σ r1 r2 x3 = some rr → ah_G κ ("LeftAsFoundLaw", "law", 4, (some FieldType.boolean), [], 2048, 84000) cL_law σ 1483 [some (va_rf (some sb)), some (va_rf r1), some (va_rf r2), some (.int x3)] []) : ∀ (σ : ah_S) (r1 : Option Nat) (r2 : Option Nat) (x3 : Int32), F_L_law_379 sL sx k1483 σ r1 r2 x3 = some rr → ah_G κ ("LeftAsFoundLaw", "law", 4, (some FieldType.boolean), [], 2048, 84000) cL_law σ 379 [some (va_rf (some sb)), some (va_rf r1), some (va_rf r2), some (.int x3)] [] := by
  intro σ r1 r2 x3 h
  unfold F_L_law_379 at h
  refine ro_aload_n (pc' := 380) dL_law_379 rfl rfl rfl ?_
  obtain ⟨u1, hu1, h⟩ := ah_bs h
  obtain ⟨v2, σ3, hv2, h⟩ := ah_bs2 h
  refine ro_callVW (pc' := 383) (As := []) (rest := []) (st' := [.int v2]) (by decide) hu1 q522 sl_X0_law (M_X0_law hv2) q521 q524 q95 dd_X0_law rfl ⟨Nat.le_of_ble_eq_true rfl, Nat.le_of_ble_eq_true rfl⟩ (Nat.le_of_ble_eq_true rfl) dL_law_380 rfl rfl rfl ?_
  refine ro_aload_n (pc' := 384) dL_law_383 rfl rfl rfl ?_
  obtain ⟨u4, hu4, h⟩ := ah_bs h
  obtain ⟨v5, σ6, hv5, h⟩ := ah_bs2 h
  refine ro_callV (pc' := 387) (As := []) (rest := [.int v2]) (st' := [.int v5, .int v2]) (by decide) hu4 q1562 sl_X6_law (M_X6_law hv5) q1561 q1564 q104 dd_X6_law rfl ⟨Nat.le_of_ble_eq_true rfl, Nat.le_of_ble_eq_true rfl⟩ (Nat.le_of_ble_eq_true rfl) dL_law_384 rfl rfl rfl ?_
  refine ro_icmp_eq (pc' := 390) (tgt := 1483) dL_law_387 rfl rfl (fun c => ?_) (fun c => ?_)
  · replace h := ah_ip c h
    exact hk1483 _ _ _ _ h
  · replace h := ah_in_ c h
    refine ro_iconst (pc' := 391) dL_law_390 ic_0 rfl ?_
    obtain rfl := Option.some.inj h
    exact ro_zret rfl hκ dL_law_391
set_option maxRecDepth 20000 in
set_option maxHeartbeats 4000000 in
theorem W_L_law_392 {κ : ah_C} {rr : (Int32 × ah_S)} (hκ : ah_res κ = (.returned (some (.int rr.1)), rr.2)) (hso : ah_kso κ) {sb sL : Nat} {sx : Nat → Int32} (hsc : ah_scr κ sb sL sx) {k1483 : ah_S → Option Nat → Option Nat → Int32 → Option (Int32 × ah_S)} (hk1483 : ∀ (σ : ah_S) (r1 : Option Nat) (r2 : Option Nat) (x3 : Int32), k1483 σ r1 r2 x3 = some rr → ah_G κ ("LeftAsFoundLaw", "law", 4, (some FieldType.boolean), [], 2048, 84000) cL_law σ 1483 [some (va_rf (some sb)), some (va_rf r1), some (va_rf r2), some (.int x3)] []) : ∀ (σ : ah_S) (r1 : Option Nat) (r2 : Option Nat) (x3 : Int32), F_L_law_392 sL sx k1483 σ r1 r2 x3 = some rr → ah_G κ ("LeftAsFoundLaw", "law", 4, (some FieldType.boolean), [], 2048, 84000) cL_law σ 392 [some (va_rf (some sb)), some (va_rf r1), some (va_rf r2), some (.int x3)] [] := by
  intro σ r1 r2 x3 h
  unfold F_L_law_392 at h
  refine ro_aload_n (pc' := 393) dL_law_392 rfl rfl rfl ?_
  refine ro_aload_n (pc' := 394) dL_law_393 rfl rfl rfl ?_
  refine ro_iload_n (pc' := 395) dL_law_394 rfl rfl rfl ?_
  refine ro_iconst (pc' := 396) dL_law_395 ic_1 rfl ?_
  refine ro_iadd (pc' := 397) dL_law_396 rfl ?_
  obtain ⟨v1, hv1, h⟩ := ah_bs h
  refine ro_sld (pc' := 398) hsc dL_law_397 rfl hv1 ?_
  refine ro_aload_n (pc' := 399) dL_law_398 rfl rfl rfl ?_
  refine ro_iload_n (pc' := 400) dL_law_399 rfl rfl rfl ?_
  refine ro_iconst (pc' := 401) dL_law_400 ic_2 rfl ?_
  refine ro_iadd (pc' := 402) dL_law_401 rfl ?_
  obtain ⟨v2, hv2, h⟩ := ah_bs h
  refine ro_sld (pc' := 403) hsc dL_law_402 rfl hv2 ?_
  refine ro_aload_n (pc' := 404) dL_law_403 rfl rfl rfl ?_
  refine ro_iload_n (pc' := 405) dL_law_404 rfl rfl rfl ?_
  refine ro_iconst (pc' := 406) dL_law_405 ic_3 rfl ?_
  refine ro_iadd (pc' := 407) dL_law_406 rfl ?_
  obtain ⟨v3, hv3, h⟩ := ah_bs h
  refine ro_sld (pc' := 408) hsc dL_law_407 rfl hv3 ?_
  obtain ⟨u4, hu4, h⟩ := ah_bs h
  obtain ⟨v5, σ6, hv5, h⟩ := ah_bs2 h
  refine ro_callV (pc' := 411) (As := [.int v1, .int v2, .int v3]) (rest := []) (st' := [.int v5]) (by decide) hu4 q650 sl_X0_level (M_X0_level hv5) q649 q652 q95 dd_X0_level rfl ⟨Nat.le_of_ble_eq_true rfl, Nat.le_of_ble_eq_true rfl⟩ (Nat.le_of_ble_eq_true rfl) dL_law_408 rfl rfl rfl ?_
  refine ro_aload_n (pc' := 412) dL_law_411 rfl rfl rfl ?_
  refine ro_aload_n (pc' := 413) dL_law_412 rfl rfl rfl ?_
  refine ro_iload_n (pc' := 414) dL_law_413 rfl rfl rfl ?_
  refine ro_iconst (pc' := 415) dL_law_414 ic_1 rfl ?_
  refine ro_iadd (pc' := 416) dL_law_415 rfl ?_
  obtain ⟨v7, hv7, h⟩ := ah_bs h
  refine ro_sld (pc' := 417) hsc dL_law_416 rfl hv7 ?_
  refine ro_aload_n (pc' := 418) dL_law_417 rfl rfl rfl ?_
  refine ro_iload_n (pc' := 419) dL_law_418 rfl rfl rfl ?_
  refine ro_iconst (pc' := 420) dL_law_419 ic_2 rfl ?_
  refine ro_iadd (pc' := 421) dL_law_420 rfl ?_
  obtain ⟨v8, hv8, h⟩ := ah_bs h
  refine ro_sld (pc' := 422) hsc dL_law_421 rfl hv8 ?_
  refine ro_aload_n (pc' := 423) dL_law_422 rfl rfl rfl ?_
  refine ro_iload_n (pc' := 424) dL_law_423 rfl rfl rfl ?_
  refine ro_iconst (pc' := 425) dL_law_424 ic_3 rfl ?_
  refine ro_iadd (pc' := 426) dL_law_425 rfl ?_
  obtain ⟨v9, hv9, h⟩ := ah_bs h
  refine ro_sld (pc' := 427) hsc dL_law_426 rfl hv9 ?_
  obtain ⟨u10, hu10, h⟩ := ah_bs h
  obtain ⟨v11, σ12, hv11, h⟩ := ah_bs2 h
  refine ro_callV (pc' := 430) (As := [.int v7, .int v8, .int v9]) (rest := [.int v5]) (st' := [.int v11, .int v5]) (by decide) hu10 q1621 sl_X6_level (M_X6_level hv11) q1620 q1623 q104 dd_X6_level rfl ⟨Nat.le_of_ble_eq_true rfl, Nat.le_of_ble_eq_true rfl⟩ (Nat.le_of_ble_eq_true rfl) dL_law_427 rfl rfl rfl ?_
  refine ro_icmp_eq (pc' := 433) (tgt := 1483) dL_law_430 rfl rfl (fun c => ?_) (fun c => ?_)
  · replace h := ah_ip c h
    exact hk1483 _ _ _ _ h
  · replace h := ah_in_ c h
    refine ro_iconst (pc' := 434) dL_law_433 ic_0 rfl ?_
    obtain rfl := Option.some.inj h
    exact ro_zret rfl hκ dL_law_434
set_option maxRecDepth 20000 in
set_option maxHeartbeats 4000000 in
theorem W_L_law_435 {κ : ah_C} {rr : (Int32 × ah_S)} (hκ : ah_res κ = (.returned (some (.int rr.1)), rr.2)) (hso : ah_kso κ) {sb sL : Nat} {sx : Nat → Int32} (hsc : ah_scr κ sb sL sx) {k1483 : ah_S → Option Nat → Option Nat → Int32 → Option (Int32 × ah_S)} (hk1483 : ∀ (σ : ah_S) (r1 : Option Nat) (r2 : Option Nat) (x3 : Int32), k1483 σ r1 r2 x3 = some rr → ah_G κ ("LeftAsFoundLaw", "law", 4, (some FieldType.boolean), [], 2048, 84000) cL_law σ 1483 [some (va_rf (some sb)), some (va_rf r1), some (va_rf r2), some (.int x3)] []) : ∀ (σ : ah_S) (r1 : Option Nat) (r2 : Option Nat) (x3 : Int32), F_L_law_435 sL sx k1483 σ r1 r2 x3 = some rr → ah_G κ ("LeftAsFoundLaw", "law", 4, (some FieldType.boolean), [], 2048, 84000) cL_law σ 435 [some (va_rf (some sb)), some (va_rf r1), some (va_rf r2), some (.int x3)] [] := by
  intro σ r1 r2 x3 h
  unfold F_L_law_435 at h
  refine ro_aload_n (pc' := 436) dL_law_435 rfl rfl rfl ?_
  refine ro_aload_n (pc' := 437) dL_law_436 rfl rfl rfl ?_
  refine ro_iload_n (pc' := 438) dL_law_437 rfl rfl rfl ?_
  refine ro_iconst (pc' := 439) dL_law_438 ic_1 rfl ?_
  refine ro_iadd (pc' := 440) dL_law_439 rfl ?_
  obtain ⟨v1, hv1, h⟩ := ah_bs h
  refine ro_sld (pc' := 441) hsc dL_law_440 rfl hv1 ?_
  refine ro_aload_n (pc' := 442) dL_law_441 rfl rfl rfl ?_
  refine ro_iload_n (pc' := 443) dL_law_442 rfl rfl rfl ?_
  refine ro_iconst (pc' := 444) dL_law_443 ic_2 rfl ?_
  refine ro_iadd (pc' := 445) dL_law_444 rfl ?_
  obtain ⟨v2, hv2, h⟩ := ah_bs h
  refine ro_sld (pc' := 446) hsc dL_law_445 rfl hv2 ?_
  obtain ⟨u3, hu3, h⟩ := ah_bs h
  obtain ⟨v4, σ5, hv4, h⟩ := ah_bs2 h
  refine ro_callV (pc' := 449) (As := [.int v1, .int v2]) (rest := []) (st' := [.int v4]) (by decide) hu3 q717 sl_X0_lowest (M_X0_lowest hv4) q716 q719 q95 dd_X0_lowest rfl ⟨Nat.le_of_ble_eq_true rfl, Nat.le_of_ble_eq_true rfl⟩ (Nat.le_of_ble_eq_true rfl) dL_law_446 rfl rfl rfl ?_
  refine ro_aload_n (pc' := 450) dL_law_449 rfl rfl rfl ?_
  refine ro_aload_n (pc' := 451) dL_law_450 rfl rfl rfl ?_
  refine ro_iload_n (pc' := 452) dL_law_451 rfl rfl rfl ?_
  refine ro_iconst (pc' := 453) dL_law_452 ic_1 rfl ?_
  refine ro_iadd (pc' := 454) dL_law_453 rfl ?_
  obtain ⟨v6, hv6, h⟩ := ah_bs h
  refine ro_sld (pc' := 455) hsc dL_law_454 rfl hv6 ?_
  refine ro_aload_n (pc' := 456) dL_law_455 rfl rfl rfl ?_
  refine ro_iload_n (pc' := 457) dL_law_456 rfl rfl rfl ?_
  refine ro_iconst (pc' := 458) dL_law_457 ic_2 rfl ?_
  refine ro_iadd (pc' := 459) dL_law_458 rfl ?_
  obtain ⟨v7, hv7, h⟩ := ah_bs h
  refine ro_sld (pc' := 460) hsc dL_law_459 rfl hv7 ?_
  obtain ⟨u8, hu8, h⟩ := ah_bs h
  obtain ⟨v9, σ10, hv9, h⟩ := ah_bs2 h
  refine ro_callV (pc' := 463) (As := [.int v6, .int v7]) (rest := [.int v4]) (st' := [.int v9, .int v4]) (by decide) hu8 q1668 sl_X6_lowest (M_X6_lowest hv9) q1667 q1670 q104 dd_X6_lowest rfl ⟨Nat.le_of_ble_eq_true rfl, Nat.le_of_ble_eq_true rfl⟩ (Nat.le_of_ble_eq_true rfl) dL_law_460 rfl rfl rfl ?_
  refine ro_icmp_eq (pc' := 466) (tgt := 1483) dL_law_463 rfl rfl (fun c => ?_) (fun c => ?_)
  · replace h := ah_ip c h
    exact hk1483 _ _ _ _ h
  · replace h := ah_in_ c h
    refine ro_iconst (pc' := 467) dL_law_466 ic_0 rfl ?_
    obtain rfl := Option.some.inj h
    exact ro_zret rfl hκ dL_law_467
set_option maxRecDepth 20000 in
set_option maxHeartbeats 4000000 in
theorem W_L_law_468 {κ : ah_C} {rr : (Int32 × ah_S)} (hκ : ah_res κ = (.returned (some (.int rr.1)), rr.2)) (hso : ah_kso κ) {sb sL : Nat} {sx : Nat → Int32} (hsc : ah_scr κ sb sL sx) {k1483 : ah_S → Option Nat → Option Nat → Int32 → Option (Int32 × ah_S)} (hk1483 : ∀ (σ : ah_S) (r1 : Option Nat) (r2 : Option Nat) (x3 : Int32), k1483 σ r1 r2 x3 = some rr → ah_G κ ("LeftAsFoundLaw", "law", 4, (some FieldType.boolean), [], 2048, 84000) cL_law σ 1483 [some (va_rf (some sb)), some (va_rf r1), some (va_rf r2), some (.int x3)] []) : ∀ (σ : ah_S) (r1 : Option Nat) (r2 : Option Nat) (x3 : Int32), F_L_law_468 sL sx k1483 σ r1 r2 x3 = some rr → ah_G κ ("LeftAsFoundLaw", "law", 4, (some FieldType.boolean), [], 2048, 84000) cL_law σ 468 [some (va_rf (some sb)), some (va_rf r1), some (va_rf r2), some (.int x3)] [] := by
  intro σ r1 r2 x3 h
  unfold F_L_law_468 at h
  refine ro_aload_n (pc' := 469) dL_law_468 rfl rfl rfl ?_
  refine ro_aload_n (pc' := 470) dL_law_469 rfl rfl rfl ?_
  refine ro_iload_n (pc' := 471) dL_law_470 rfl rfl rfl ?_
  refine ro_iconst (pc' := 472) dL_law_471 ic_1 rfl ?_
  refine ro_iadd (pc' := 473) dL_law_472 rfl ?_
  obtain ⟨v1, hv1, h⟩ := ah_bs h
  refine ro_sld (pc' := 474) hsc dL_law_473 rfl hv1 ?_
  refine ro_aload_n (pc' := 475) dL_law_474 rfl rfl rfl ?_
  refine ro_iload_n (pc' := 476) dL_law_475 rfl rfl rfl ?_
  refine ro_iconst (pc' := 477) dL_law_476 ic_2 rfl ?_
  refine ro_iadd (pc' := 478) dL_law_477 rfl ?_
  obtain ⟨v2, hv2, h⟩ := ah_bs h
  refine ro_sld (pc' := 479) hsc dL_law_478 rfl hv2 ?_
  refine ro_aload_n (pc' := 480) dL_law_479 rfl rfl rfl ?_
  refine ro_iload_n (pc' := 481) dL_law_480 rfl rfl rfl ?_
  refine ro_iconst (pc' := 482) dL_law_481 ic_3 rfl ?_
  refine ro_iadd (pc' := 483) dL_law_482 rfl ?_
  obtain ⟨v3, hv3, h⟩ := ah_bs h
  refine ro_sld (pc' := 484) hsc dL_law_483 rfl hv3 ?_
  obtain ⟨u4, hu4, h⟩ := ah_bs h
  obtain ⟨v5, σ6, hv5, h⟩ := ah_bs2 h
  refine ro_callV (pc' := 487) (As := [.int v1, .int v2, .int v3]) (rest := []) (st' := [.int v5]) (by decide) hu4 q721 sl_X0_below (M_X0_below hv5) q720 q723 q95 dd_X0_below rfl ⟨Nat.le_of_ble_eq_true rfl, Nat.le_of_ble_eq_true rfl⟩ (Nat.le_of_ble_eq_true rfl) dL_law_484 rfl rfl rfl ?_
  refine ro_aload_n (pc' := 488) dL_law_487 rfl rfl rfl ?_
  refine ro_aload_n (pc' := 489) dL_law_488 rfl rfl rfl ?_
  refine ro_iload_n (pc' := 490) dL_law_489 rfl rfl rfl ?_
  refine ro_iconst (pc' := 491) dL_law_490 ic_1 rfl ?_
  refine ro_iadd (pc' := 492) dL_law_491 rfl ?_
  obtain ⟨v7, hv7, h⟩ := ah_bs h
  refine ro_sld (pc' := 493) hsc dL_law_492 rfl hv7 ?_
  refine ro_aload_n (pc' := 494) dL_law_493 rfl rfl rfl ?_
  refine ro_iload_n (pc' := 495) dL_law_494 rfl rfl rfl ?_
  refine ro_iconst (pc' := 496) dL_law_495 ic_2 rfl ?_
  refine ro_iadd (pc' := 497) dL_law_496 rfl ?_
  obtain ⟨v8, hv8, h⟩ := ah_bs h
  refine ro_sld (pc' := 498) hsc dL_law_497 rfl hv8 ?_
  refine ro_aload_n (pc' := 499) dL_law_498 rfl rfl rfl ?_
  refine ro_iload_n (pc' := 500) dL_law_499 rfl rfl rfl ?_
  refine ro_iconst (pc' := 501) dL_law_500 ic_3 rfl ?_
  refine ro_iadd (pc' := 502) dL_law_501 rfl ?_
  obtain ⟨v9, hv9, h⟩ := ah_bs h
  refine ro_sld (pc' := 503) hsc dL_law_502 rfl hv9 ?_
  obtain ⟨u10, hu10, h⟩ := ah_bs h
  obtain ⟨v11, σ12, hv11, h⟩ := ah_bs2 h
  refine ro_callV (pc' := 506) (As := [.int v7, .int v8, .int v9]) (rest := [.int v5]) (st' := [.int v11, .int v5]) (by decide) hu10 q1672 sl_X6_below (M_X6_below hv11) q1671 q1674 q104 dd_X6_below rfl ⟨Nat.le_of_ble_eq_true rfl, Nat.le_of_ble_eq_true rfl⟩ (Nat.le_of_ble_eq_true rfl) dL_law_503 rfl rfl rfl ?_
  refine ro_icmp_eq (pc' := 509) (tgt := 1483) dL_law_506 rfl rfl (fun c => ?_) (fun c => ?_)
  · replace h := ah_ip c h
    exact hk1483 _ _ _ _ h
  · replace h := ah_in_ c h
    refine ro_iconst (pc' := 510) dL_law_509 ic_0 rfl ?_
    obtain rfl := Option.some.inj h
    exact ro_zret rfl hκ dL_law_510
set_option maxRecDepth 20000 in
set_option maxHeartbeats 4000000 in
theorem W_L_law_511 {κ : ah_C} {rr : (Int32 × ah_S)} (hκ : ah_res κ = (.returned (some (.int rr.1)), rr.2)) (hso : ah_kso κ) {sb sL : Nat} {sx : Nat → Int32} (hsc : ah_scr κ sb sL sx) {k1483 : ah_S → Option Nat → Option Nat → Int32 → Option (Int32 × ah_S)} (hk1483 : ∀ (σ : ah_S) (r1 : Option Nat) (r2 : Option Nat) (x3 : Int32), k1483 σ r1 r2 x3 = some rr → ah_G κ ("LeftAsFoundLaw", "law", 4, (some FieldType.boolean), [], 2048, 84000) cL_law σ 1483 [some (va_rf (some sb)), some (va_rf r1), some (va_rf r2), some (.int x3)] []) : ∀ (σ : ah_S) (r1 : Option Nat) (r2 : Option Nat) (x3 : Int32), F_L_law_511 sL sx k1483 σ r1 r2 x3 = some rr → ah_G κ ("LeftAsFoundLaw", "law", 4, (some FieldType.boolean), [], 2048, 84000) cL_law σ 511 [some (va_rf (some sb)), some (va_rf r1), some (va_rf r2), some (.int x3)] [] := by
  intro σ r1 r2 x3 h
  unfold F_L_law_511 at h
  refine ro_aload_n (pc' := 512) dL_law_511 rfl rfl rfl ?_
  refine ro_aload_n (pc' := 513) dL_law_512 rfl rfl rfl ?_
  refine ro_iload_n (pc' := 514) dL_law_513 rfl rfl rfl ?_
  refine ro_iconst (pc' := 515) dL_law_514 ic_1 rfl ?_
  refine ro_iadd (pc' := 516) dL_law_515 rfl ?_
  obtain ⟨v1, hv1, h⟩ := ah_bs h
  refine ro_sld (pc' := 517) hsc dL_law_516 rfl hv1 ?_
  obtain ⟨u2, hu2, h⟩ := ah_bs h
  obtain ⟨v3, σ4, hv3, h⟩ := ah_bs2 h
  refine ro_callV (pc' := 520) (As := [.int v1]) (rest := []) (st' := [.int v3]) (by decide) hu2 q726 sl_X0_loss (M_X0_loss hv3) q725 q728 q95 dd_X0_loss rfl ⟨Nat.le_of_ble_eq_true rfl, Nat.le_of_ble_eq_true rfl⟩ (Nat.le_of_ble_eq_true rfl) dL_law_517 rfl rfl rfl ?_
  refine ro_aload_n (pc' := 521) dL_law_520 rfl rfl rfl ?_
  refine ro_aload_n (pc' := 522) dL_law_521 rfl rfl rfl ?_
  refine ro_iload_n (pc' := 523) dL_law_522 rfl rfl rfl ?_
  refine ro_iconst (pc' := 524) dL_law_523 ic_1 rfl ?_
  refine ro_iadd (pc' := 525) dL_law_524 rfl ?_
  obtain ⟨v5, hv5, h⟩ := ah_bs h
  refine ro_sld (pc' := 526) hsc dL_law_525 rfl hv5 ?_
  obtain ⟨u6, hu6, h⟩ := ah_bs h
  obtain ⟨v7, σ8, hv7, h⟩ := ah_bs2 h
  refine ro_callV (pc' := 529) (As := [.int v5]) (rest := [.int v3]) (st' := [.int v7, .int v3]) (by decide) hu6 q1676 sl_X6_loss (M_X6_loss hv7) q1675 q1678 q104 dd_X6_loss rfl ⟨Nat.le_of_ble_eq_true rfl, Nat.le_of_ble_eq_true rfl⟩ (Nat.le_of_ble_eq_true rfl) dL_law_526 rfl rfl rfl ?_
  refine ro_icmp_eq (pc' := 532) (tgt := 1483) dL_law_529 rfl rfl (fun c => ?_) (fun c => ?_)
  · replace h := ah_ip c h
    exact hk1483 _ _ _ _ h
  · replace h := ah_in_ c h
    refine ro_iconst (pc' := 533) dL_law_532 ic_0 rfl ?_
    obtain rfl := Option.some.inj h
    exact ro_zret rfl hκ dL_law_533
set_option maxRecDepth 20000 in
set_option maxHeartbeats 4000000 in
theorem W_L_law_534 {κ : ah_C} {rr : (Int32 × ah_S)} (hκ : ah_res κ = (.returned (some (.int rr.1)), rr.2)) (hso : ah_kso κ) {sb sL : Nat} {sx : Nat → Int32} (hsc : ah_scr κ sb sL sx) {k1483 : ah_S → Option Nat → Option Nat → Int32 → Option (Int32 × ah_S)} (hk1483 : ∀ (σ : ah_S) (r1 : Option Nat) (r2 : Option Nat) (x3 : Int32), k1483 σ r1 r2 x3 = some rr → ah_G κ ("LeftAsFoundLaw", "law", 4, (some FieldType.boolean), [], 2048, 84000) cL_law σ 1483 [some (va_rf (some sb)), some (va_rf r1), some (va_rf r2), some (.int x3)] []) : ∀ (σ : ah_S) (r1 : Option Nat) (r2 : Option Nat) (x3 : Int32), F_L_law_534 sL sx k1483 σ r1 r2 x3 = some rr → ah_G κ ("LeftAsFoundLaw", "law", 4, (some FieldType.boolean), [], 2048, 84000) cL_law σ 534 [some (va_rf (some sb)), some (va_rf r1), some (va_rf r2), some (.int x3)] [] := by
  intro σ r1 r2 x3 h
  unfold F_L_law_534 at h
  refine ro_aload_n (pc' := 535) dL_law_534 rfl rfl rfl ?_
  refine ro_aload_n (pc' := 536) dL_law_535 rfl rfl rfl ?_
  refine ro_iload_n (pc' := 537) dL_law_536 rfl rfl rfl ?_
  refine ro_iconst (pc' := 538) dL_law_537 ic_1 rfl ?_
  refine ro_iadd (pc' := 539) dL_law_538 rfl ?_
  obtain ⟨v1, hv1, h⟩ := ah_bs h
  refine ro_sld (pc' := 540) hsc dL_law_539 rfl hv1 ?_
  refine ro_aload_n (pc' := 541) dL_law_540 rfl rfl rfl ?_
  refine ro_iload_n (pc' := 542) dL_law_541 rfl rfl rfl ?_
  refine ro_iconst (pc' := 543) dL_law_542 ic_2 rfl ?_
  refine ro_iadd (pc' := 544) dL_law_543 rfl ?_
  obtain ⟨v2, hv2, h⟩ := ah_bs h
  refine ro_sld (pc' := 545) hsc dL_law_544 rfl hv2 ?_
  obtain ⟨u3, hu3, h⟩ := ah_bs h
  obtain ⟨v4, σ5, hv4, h⟩ := ah_bs2 h
  refine ro_callV (pc' := 548) (As := [.int v1, .int v2]) (rest := []) (st' := [.int v4]) (by decide) hu3 q743 sl_X0_rest (M_X0_rest hv4) q742 q745 q95 dd_X0_rest rfl ⟨Nat.le_of_ble_eq_true rfl, Nat.le_of_ble_eq_true rfl⟩ (Nat.le_of_ble_eq_true rfl) dL_law_545 rfl rfl rfl ?_
  refine ro_aload_n (pc' := 549) dL_law_548 rfl rfl rfl ?_
  refine ro_aload_n (pc' := 550) dL_law_549 rfl rfl rfl ?_
  refine ro_iload_n (pc' := 551) dL_law_550 rfl rfl rfl ?_
  refine ro_iconst (pc' := 552) dL_law_551 ic_1 rfl ?_
  refine ro_iadd (pc' := 553) dL_law_552 rfl ?_
  obtain ⟨v6, hv6, h⟩ := ah_bs h
  refine ro_sld (pc' := 554) hsc dL_law_553 rfl hv6 ?_
  refine ro_aload_n (pc' := 555) dL_law_554 rfl rfl rfl ?_
  refine ro_iload_n (pc' := 556) dL_law_555 rfl rfl rfl ?_
  refine ro_iconst (pc' := 557) dL_law_556 ic_2 rfl ?_
  refine ro_iadd (pc' := 558) dL_law_557 rfl ?_
  obtain ⟨v7, hv7, h⟩ := ah_bs h
  refine ro_sld (pc' := 559) hsc dL_law_558 rfl hv7 ?_
  obtain ⟨u8, hu8, h⟩ := ah_bs h
  obtain ⟨v9, σ10, hv9, h⟩ := ah_bs2 h
  refine ro_callV (pc' := 562) (As := [.int v6, .int v7]) (rest := [.int v4]) (st' := [.int v9, .int v4]) (by decide) hu8 q1692 sl_X6_rest (M_X6_rest hv9) q1691 q1694 q104 dd_X6_rest rfl ⟨Nat.le_of_ble_eq_true rfl, Nat.le_of_ble_eq_true rfl⟩ (Nat.le_of_ble_eq_true rfl) dL_law_559 rfl rfl rfl ?_
  refine ro_icmp_eq (pc' := 565) (tgt := 1483) dL_law_562 rfl rfl (fun c => ?_) (fun c => ?_)
  · replace h := ah_ip c h
    exact hk1483 _ _ _ _ h
  · replace h := ah_in_ c h
    refine ro_iconst (pc' := 566) dL_law_565 ic_0 rfl ?_
    obtain rfl := Option.some.inj h
    exact ro_zret rfl hκ dL_law_566
set_option maxRecDepth 20000 in
set_option maxHeartbeats 4000000 in
theorem W_L_law_567 {κ : ah_C} {rr : (Int32 × ah_S)} (hκ : ah_res κ = (.returned (some (.int rr.1)), rr.2)) (hso : ah_kso κ) {sb sL : Nat} {sx : Nat → Int32} (hsc : ah_scr κ sb sL sx) {k1483 : ah_S → Option Nat → Option Nat → Int32 → Option (Int32 × ah_S)} (hk1483 : ∀ (σ : ah_S) (r1 : Option Nat) (r2 : Option Nat) (x3 : Int32), k1483 σ r1 r2 x3 = some rr → ah_G κ ("LeftAsFoundLaw", "law", 4, (some FieldType.boolean), [], 2048, 84000) cL_law σ 1483 [some (va_rf (some sb)), some (va_rf r1), some (va_rf r2), some (.int x3)] []) : ∀ (σ : ah_S) (r1 : Option Nat) (r2 : Option Nat) (x3 : Int32), F_L_law_567 sL sx k1483 σ r1 r2 x3 = some rr → ah_G κ ("LeftAsFoundLaw", "law", 4, (some FieldType.boolean), [], 2048, 84000) cL_law σ 567 [some (va_rf (some sb)), some (va_rf r1), some (va_rf r2), some (.int x3)] [] := by
  intro σ r1 r2 x3 h
  unfold F_L_law_567 at h
  refine ro_aload_n (pc' := 568) dL_law_567 rfl rfl rfl ?_
  refine ro_aload_n (pc' := 569) dL_law_568 rfl rfl rfl ?_
  refine ro_iload_n (pc' := 570) dL_law_569 rfl rfl rfl ?_
  refine ro_iconst (pc' := 571) dL_law_570 ic_1 rfl ?_
  refine ro_iadd (pc' := 572) dL_law_571 rfl ?_
  obtain ⟨v1, hv1, h⟩ := ah_bs h
  refine ro_sld (pc' := 573) hsc dL_law_572 rfl hv1 ?_
  refine ro_aload_n (pc' := 574) dL_law_573 rfl rfl rfl ?_
  refine ro_iload_n (pc' := 575) dL_law_574 rfl rfl rfl ?_
  refine ro_iconst (pc' := 576) dL_law_575 ic_2 rfl ?_
  refine ro_iadd (pc' := 577) dL_law_576 rfl ?_
  obtain ⟨v2, hv2, h⟩ := ah_bs h
  refine ro_sld (pc' := 578) hsc dL_law_577 rfl hv2 ?_
  refine ro_aload_n (pc' := 579) dL_law_578 rfl rfl rfl ?_
  refine ro_iload_n (pc' := 580) dL_law_579 rfl rfl rfl ?_
  refine ro_iconst (pc' := 581) dL_law_580 ic_3 rfl ?_
  refine ro_iadd (pc' := 582) dL_law_581 rfl ?_
  obtain ⟨v3, hv3, h⟩ := ah_bs h
  refine ro_sld (pc' := 583) hsc dL_law_582 rfl hv3 ?_
  obtain ⟨u4, hu4, h⟩ := ah_bs h
  obtain ⟨v5, σ6, hv5, h⟩ := ah_bs2 h
  refine ro_callV (pc' := 586) (As := [.int v1, .int v2, .int v3]) (rest := []) (st' := [.int v5]) (by decide) hu4 q759 sl_X0_often (M_X0_often hv5) q758 q761 q95 dd_X0_often rfl ⟨Nat.le_of_ble_eq_true rfl, Nat.le_of_ble_eq_true rfl⟩ (Nat.le_of_ble_eq_true rfl) dL_law_583 rfl rfl rfl ?_
  refine ro_aload_n (pc' := 587) dL_law_586 rfl rfl rfl ?_
  refine ro_aload_n (pc' := 588) dL_law_587 rfl rfl rfl ?_
  refine ro_iload_n (pc' := 589) dL_law_588 rfl rfl rfl ?_
  refine ro_iconst (pc' := 590) dL_law_589 ic_1 rfl ?_
  refine ro_iadd (pc' := 591) dL_law_590 rfl ?_
  obtain ⟨v7, hv7, h⟩ := ah_bs h
  refine ro_sld (pc' := 592) hsc dL_law_591 rfl hv7 ?_
  refine ro_aload_n (pc' := 593) dL_law_592 rfl rfl rfl ?_
  refine ro_iload_n (pc' := 594) dL_law_593 rfl rfl rfl ?_
  refine ro_iconst (pc' := 595) dL_law_594 ic_2 rfl ?_
  refine ro_iadd (pc' := 596) dL_law_595 rfl ?_
  obtain ⟨v8, hv8, h⟩ := ah_bs h
  refine ro_sld (pc' := 597) hsc dL_law_596 rfl hv8 ?_
  refine ro_aload_n (pc' := 598) dL_law_597 rfl rfl rfl ?_
  refine ro_iload_n (pc' := 599) dL_law_598 rfl rfl rfl ?_
  refine ro_iconst (pc' := 600) dL_law_599 ic_3 rfl ?_
  refine ro_iadd (pc' := 601) dL_law_600 rfl ?_
  obtain ⟨v9, hv9, h⟩ := ah_bs h
  refine ro_sld (pc' := 602) hsc dL_law_601 rfl hv9 ?_
  obtain ⟨u10, hu10, h⟩ := ah_bs h
  obtain ⟨v11, σ12, hv11, h⟩ := ah_bs2 h
  refine ro_callV (pc' := 605) (As := [.int v7, .int v8, .int v9]) (rest := [.int v5]) (st' := [.int v11, .int v5]) (by decide) hu10 q1700 sl_X6_often (M_X6_often hv11) q1699 q1702 q104 dd_X6_often rfl ⟨Nat.le_of_ble_eq_true rfl, Nat.le_of_ble_eq_true rfl⟩ (Nat.le_of_ble_eq_true rfl) dL_law_602 rfl rfl rfl ?_
  refine ro_icmp_eq (pc' := 608) (tgt := 1483) dL_law_605 rfl rfl (fun c => ?_) (fun c => ?_)
  · replace h := ah_ip c h
    exact hk1483 _ _ _ _ h
  · replace h := ah_in_ c h
    refine ro_iconst (pc' := 609) dL_law_608 ic_0 rfl ?_
    obtain rfl := Option.some.inj h
    exact ro_zret rfl hκ dL_law_609
set_option maxRecDepth 20000 in
set_option maxHeartbeats 4000000 in
theorem W_L_law_610 {κ : ah_C} {rr : (Int32 × ah_S)} (hκ : ah_res κ = (.returned (some (.int rr.1)), rr.2)) (hso : ah_kso κ) {sb sL : Nat} {sx : Nat → Int32} (hsc : ah_scr κ sb sL sx) {k1483 : ah_S → Option Nat → Option Nat → Int32 → Option (Int32 × ah_S)} (hk1483 : ∀ (σ : ah_S) (r1 : Option Nat) (r2 : Option Nat) (x3 : Int32), k1483 σ r1 r2 x3 = some rr → ah_G κ ("LeftAsFoundLaw", "law", 4, (some FieldType.boolean), [], 2048, 84000) cL_law σ 1483 [some (va_rf (some sb)), some (va_rf r1), some (va_rf r2), some (.int x3)] []) : ∀ (σ : ah_S) (r1 : Option Nat) (r2 : Option Nat) (x3 : Int32), F_L_law_610 sL sx k1483 σ r1 r2 x3 = some rr → ah_G κ ("LeftAsFoundLaw", "law", 4, (some FieldType.boolean), [], 2048, 84000) cL_law σ 610 [some (va_rf (some sb)), some (va_rf r1), some (va_rf r2), some (.int x3)] [] := by
  intro σ r1 r2 x3 h
  unfold F_L_law_610 at h
  refine ro_aload_n (pc' := 611) dL_law_610 rfl rfl rfl ?_
  refine ro_aload_n (pc' := 612) dL_law_611 rfl rfl rfl ?_
  refine ro_iload_n (pc' := 613) dL_law_612 rfl rfl rfl ?_
  refine ro_iconst (pc' := 614) dL_law_613 ic_1 rfl ?_
  refine ro_iadd (pc' := 615) dL_law_614 rfl ?_
  obtain ⟨v1, hv1, h⟩ := ah_bs h
  refine ro_sld (pc' := 616) hsc dL_law_615 rfl hv1 ?_
  refine ro_aload_n (pc' := 617) dL_law_616 rfl rfl rfl ?_
  refine ro_iload_n (pc' := 618) dL_law_617 rfl rfl rfl ?_
  refine ro_iconst (pc' := 619) dL_law_618 ic_2 rfl ?_
  refine ro_iadd (pc' := 620) dL_law_619 rfl ?_
  obtain ⟨v2, hv2, h⟩ := ah_bs h
  refine ro_sld (pc' := 621) hsc dL_law_620 rfl hv2 ?_
  obtain ⟨u3, hu3, h⟩ := ah_bs h
  obtain ⟨v4, σ5, hv4, h⟩ := ah_bs2 h
  refine ro_callV (pc' := 624) (As := [.int v1, .int v2]) (rest := []) (st' := [.int v4]) (by decide) hu3 q771 sl_X0_warden (M_X0_warden hv4) q770 q773 q95 dd_X0_warden rfl ⟨Nat.le_of_ble_eq_true rfl, Nat.le_of_ble_eq_true rfl⟩ (Nat.le_of_ble_eq_true rfl) dL_law_621 rfl rfl rfl ?_
  refine ro_aload_n (pc' := 625) dL_law_624 rfl rfl rfl ?_
  refine ro_aload_n (pc' := 626) dL_law_625 rfl rfl rfl ?_
  refine ro_iload_n (pc' := 627) dL_law_626 rfl rfl rfl ?_
  refine ro_iconst (pc' := 628) dL_law_627 ic_1 rfl ?_
  refine ro_iadd (pc' := 629) dL_law_628 rfl ?_
  obtain ⟨v6, hv6, h⟩ := ah_bs h
  refine ro_sld (pc' := 630) hsc dL_law_629 rfl hv6 ?_
  refine ro_aload_n (pc' := 631) dL_law_630 rfl rfl rfl ?_
  refine ro_iload_n (pc' := 632) dL_law_631 rfl rfl rfl ?_
  refine ro_iconst (pc' := 633) dL_law_632 ic_2 rfl ?_
  refine ro_iadd (pc' := 634) dL_law_633 rfl ?_
  obtain ⟨v7, hv7, h⟩ := ah_bs h
  refine ro_sld (pc' := 635) hsc dL_law_634 rfl hv7 ?_
  obtain ⟨u8, hu8, h⟩ := ah_bs h
  obtain ⟨v9, σ10, hv9, h⟩ := ah_bs2 h
  refine ro_callV (pc' := 638) (As := [.int v6, .int v7]) (rest := [.int v4]) (st' := [.int v9, .int v4]) (by decide) hu8 q1712 sl_X6_warden (M_X6_warden hv9) q1711 q1714 q104 dd_X6_warden rfl ⟨Nat.le_of_ble_eq_true rfl, Nat.le_of_ble_eq_true rfl⟩ (Nat.le_of_ble_eq_true rfl) dL_law_635 rfl rfl rfl ?_
  refine ro_icmp_eq (pc' := 641) (tgt := 1483) dL_law_638 rfl rfl (fun c => ?_) (fun c => ?_)
  · replace h := ah_ip c h
    exact hk1483 _ _ _ _ h
  · replace h := ah_in_ c h
    refine ro_iconst (pc' := 642) dL_law_641 ic_0 rfl ?_
    obtain rfl := Option.some.inj h
    exact ro_zret rfl hκ dL_law_642
set_option maxRecDepth 20000 in
set_option maxHeartbeats 4000000 in
theorem W_L_law_643 {κ : ah_C} {rr : (Int32 × ah_S)} (hκ : ah_res κ = (.returned (some (.int rr.1)), rr.2)) (hso : ah_kso κ) {sb sL : Nat} {sx : Nat → Int32} (hsc : ah_scr κ sb sL sx) {k1483 : ah_S → Option Nat → Option Nat → Int32 → Option (Int32 × ah_S)} (hk1483 : ∀ (σ : ah_S) (r1 : Option Nat) (r2 : Option Nat) (x3 : Int32), k1483 σ r1 r2 x3 = some rr → ah_G κ ("LeftAsFoundLaw", "law", 4, (some FieldType.boolean), [], 2048, 84000) cL_law σ 1483 [some (va_rf (some sb)), some (va_rf r1), some (va_rf r2), some (.int x3)] []) : ∀ (σ : ah_S) (r1 : Option Nat) (r2 : Option Nat) (x3 : Int32), F_L_law_643 sL sx k1483 σ r1 r2 x3 = some rr → ah_G κ ("LeftAsFoundLaw", "law", 4, (some FieldType.boolean), [], 2048, 84000) cL_law σ 643 [some (va_rf (some sb)), some (va_rf r1), some (va_rf r2), some (.int x3)] [] := by
  intro σ r1 r2 x3 h
  unfold F_L_law_643 at h
  refine ro_aload_n (pc' := 644) dL_law_643 rfl rfl rfl ?_
  refine ro_aload_n (pc' := 645) dL_law_644 rfl rfl rfl ?_
  refine ro_iload_n (pc' := 646) dL_law_645 rfl rfl rfl ?_
  refine ro_iconst (pc' := 647) dL_law_646 ic_1 rfl ?_
  refine ro_iadd (pc' := 648) dL_law_647 rfl ?_
  obtain ⟨v1, hv1, h⟩ := ah_bs h
  refine ro_sld (pc' := 649) hsc dL_law_648 rfl hv1 ?_
  refine ro_aload_n (pc' := 650) dL_law_649 rfl rfl rfl ?_
  refine ro_iload_n (pc' := 651) dL_law_650 rfl rfl rfl ?_
  refine ro_iconst (pc' := 652) dL_law_651 ic_2 rfl ?_
  refine ro_iadd (pc' := 653) dL_law_652 rfl ?_
  obtain ⟨v2, hv2, h⟩ := ah_bs h
  refine ro_sld (pc' := 654) hsc dL_law_653 rfl hv2 ?_
  obtain ⟨u3, hu3, h⟩ := ah_bs h
  obtain ⟨v4, σ5, hv4, h⟩ := ah_bs2 h
  refine ro_callV (pc' := 657) (As := [.int v1, .int v2]) (rest := []) (st' := [.int v4]) (by decide) hu3 q780 sl_X0_spoils (M_X0_spoils hv4) q779 q782 q95 dd_X0_spoils rfl ⟨Nat.le_of_ble_eq_true rfl, Nat.le_of_ble_eq_true rfl⟩ (Nat.le_of_ble_eq_true rfl) dL_law_654 rfl rfl rfl ?_
  refine ro_aload_n (pc' := 658) dL_law_657 rfl rfl rfl ?_
  refine ro_aload_n (pc' := 659) dL_law_658 rfl rfl rfl ?_
  refine ro_iload_n (pc' := 660) dL_law_659 rfl rfl rfl ?_
  refine ro_iconst (pc' := 661) dL_law_660 ic_1 rfl ?_
  refine ro_iadd (pc' := 662) dL_law_661 rfl ?_
  obtain ⟨v6, hv6, h⟩ := ah_bs h
  refine ro_sld (pc' := 663) hsc dL_law_662 rfl hv6 ?_
  refine ro_aload_n (pc' := 664) dL_law_663 rfl rfl rfl ?_
  refine ro_iload_n (pc' := 665) dL_law_664 rfl rfl rfl ?_
  refine ro_iconst (pc' := 666) dL_law_665 ic_2 rfl ?_
  refine ro_iadd (pc' := 667) dL_law_666 rfl ?_
  obtain ⟨v7, hv7, h⟩ := ah_bs h
  refine ro_sld (pc' := 668) hsc dL_law_667 rfl hv7 ?_
  obtain ⟨u8, hu8, h⟩ := ah_bs h
  obtain ⟨v9, σ10, hv9, h⟩ := ah_bs2 h
  refine ro_callV (pc' := 671) (As := [.int v6, .int v7]) (rest := [.int v4]) (st' := [.int v9, .int v4]) (by decide) hu8 q1721 sl_X6_spoils (M_X6_spoils hv9) q1720 q1723 q104 dd_X6_spoils rfl ⟨Nat.le_of_ble_eq_true rfl, Nat.le_of_ble_eq_true rfl⟩ (Nat.le_of_ble_eq_true rfl) dL_law_668 rfl rfl rfl ?_
  refine ro_icmp_eq (pc' := 674) (tgt := 1483) dL_law_671 rfl rfl (fun c => ?_) (fun c => ?_)
  · replace h := ah_ip c h
    exact hk1483 _ _ _ _ h
  · replace h := ah_in_ c h
    refine ro_iconst (pc' := 675) dL_law_674 ic_0 rfl ?_
    obtain rfl := Option.some.inj h
    exact ro_zret rfl hκ dL_law_675
set_option maxRecDepth 20000 in
set_option maxHeartbeats 4000000 in
theorem W_L_law_676 {κ : ah_C} {rr : (Int32 × ah_S)} (hκ : ah_res κ = (.returned (some (.int rr.1)), rr.2)) (hso : ah_kso κ) {sb sL : Nat} {sx : Nat → Int32} (hsc : ah_scr κ sb sL sx) {k1483 : ah_S → Option Nat → Option Nat → Int32 → Option (Int32 × ah_S)} (hk1483 : ∀ (σ : ah_S) (r1 : Option Nat) (r2 : Option Nat) (x3 : Int32), k1483 σ r1 r2 x3 = some rr → ah_G κ ("LeftAsFoundLaw", "law", 4, (some FieldType.boolean), [], 2048, 84000) cL_law σ 1483 [some (va_rf (some sb)), some (va_rf r1), some (va_rf r2), some (.int x3)] []) : ∀ (σ : ah_S) (r1 : Option Nat) (r2 : Option Nat) (x3 : Int32), F_L_law_676 sL sx k1483 σ r1 r2 x3 = some rr → ah_G κ ("LeftAsFoundLaw", "law", 4, (some FieldType.boolean), [], 2048, 84000) cL_law σ 676 [some (va_rf (some sb)), some (va_rf r1), some (va_rf r2), some (.int x3)] [] := by
  intro σ r1 r2 x3 h
  unfold F_L_law_676 at h
  refine ro_aload_n (pc' := 677) dL_law_676 rfl rfl rfl ?_
  refine ro_aload_n (pc' := 678) dL_law_677 rfl rfl rfl ?_
  refine ro_iload_n (pc' := 679) dL_law_678 rfl rfl rfl ?_
  refine ro_iconst (pc' := 680) dL_law_679 ic_1 rfl ?_
  refine ro_iadd (pc' := 681) dL_law_680 rfl ?_
  obtain ⟨v1, hv1, h⟩ := ah_bs h
  refine ro_sld (pc' := 682) hsc dL_law_681 rfl hv1 ?_
  refine ro_aload_n (pc' := 683) dL_law_682 rfl rfl rfl ?_
  refine ro_iload_n (pc' := 684) dL_law_683 rfl rfl rfl ?_
  refine ro_iconst (pc' := 685) dL_law_684 ic_2 rfl ?_
  refine ro_iadd (pc' := 686) dL_law_685 rfl ?_
  obtain ⟨v2, hv2, h⟩ := ah_bs h
  refine ro_sld (pc' := 687) hsc dL_law_686 rfl hv2 ?_
  obtain ⟨u3, hu3, h⟩ := ah_bs h
  obtain ⟨v4, σ5, hv4, h⟩ := ah_bs2 h
  refine ro_callV (pc' := 690) (As := [.int v1, .int v2]) (rest := []) (st' := [.int v4]) (by decide) hu3 q785 sl_X0_order (M_X0_order hv4) q784 q787 q95 dd_X0_order rfl ⟨Nat.le_of_ble_eq_true rfl, Nat.le_of_ble_eq_true rfl⟩ (Nat.le_of_ble_eq_true rfl) dL_law_687 rfl rfl rfl ?_
  refine ro_aload_n (pc' := 691) dL_law_690 rfl rfl rfl ?_
  refine ro_aload_n (pc' := 692) dL_law_691 rfl rfl rfl ?_
  refine ro_iload_n (pc' := 693) dL_law_692 rfl rfl rfl ?_
  refine ro_iconst (pc' := 694) dL_law_693 ic_1 rfl ?_
  refine ro_iadd (pc' := 695) dL_law_694 rfl ?_
  obtain ⟨v6, hv6, h⟩ := ah_bs h
  refine ro_sld (pc' := 696) hsc dL_law_695 rfl hv6 ?_
  refine ro_aload_n (pc' := 697) dL_law_696 rfl rfl rfl ?_
  refine ro_iload_n (pc' := 698) dL_law_697 rfl rfl rfl ?_
  refine ro_iconst (pc' := 699) dL_law_698 ic_2 rfl ?_
  refine ro_iadd (pc' := 700) dL_law_699 rfl ?_
  obtain ⟨v7, hv7, h⟩ := ah_bs h
  refine ro_sld (pc' := 701) hsc dL_law_700 rfl hv7 ?_
  obtain ⟨u8, hu8, h⟩ := ah_bs h
  obtain ⟨v9, σ10, hv9, h⟩ := ah_bs2 h
  refine ro_callV (pc' := 704) (As := [.int v6, .int v7]) (rest := [.int v4]) (st' := [.int v9, .int v4]) (by decide) hu8 q1729 sl_X6_order (M_X6_order hv9) q1728 q1731 q104 dd_X6_order rfl ⟨Nat.le_of_ble_eq_true rfl, Nat.le_of_ble_eq_true rfl⟩ (Nat.le_of_ble_eq_true rfl) dL_law_701 rfl rfl rfl ?_
  refine ro_icmp_eq (pc' := 707) (tgt := 1483) dL_law_704 rfl rfl (fun c => ?_) (fun c => ?_)
  · replace h := ah_ip c h
    exact hk1483 _ _ _ _ h
  · replace h := ah_in_ c h
    refine ro_iconst (pc' := 708) dL_law_707 ic_0 rfl ?_
    obtain rfl := Option.some.inj h
    exact ro_zret rfl hκ dL_law_708
set_option maxRecDepth 20000 in
set_option maxHeartbeats 4000000 in
theorem W_L_law_709 {κ : ah_C} {rr : (Int32 × ah_S)} (hκ : ah_res κ = (.returned (some (.int rr.1)), rr.2)) (hso : ah_kso κ) {sb sL : Nat} {sx : Nat → Int32} (hsc : ah_scr κ sb sL sx) {k1483 : ah_S → Option Nat → Option Nat → Int32 → Option (Int32 × ah_S)} (hk1483 : ∀ (σ : ah_S) (r1 : Option Nat) (r2 : Option Nat) (x3 : Int32), k1483 σ r1 r2 x3 = some rr → ah_G κ ("LeftAsFoundLaw", "law", 4, (some FieldType.boolean), [], 2048, 84000) cL_law σ 1483 [some (va_rf (some sb)), some (va_rf r1), some (va_rf r2), some (.int x3)] []) : ∀ (σ : ah_S) (r1 : Option Nat) (r2 : Option Nat) (x3 : Int32), F_L_law_709 sL sx k1483 σ r1 r2 x3 = some rr → ah_G κ ("LeftAsFoundLaw", "law", 4, (some FieldType.boolean), [], 2048, 84000) cL_law σ 709 [some (va_rf (some sb)), some (va_rf r1), some (va_rf r2), some (.int x3)] [] := by
  intro σ r1 r2 x3 h
  unfold F_L_law_709 at h
  refine ro_aload_n (pc' := 710) dL_law_709 rfl rfl rfl ?_
  refine ro_aload_n (pc' := 711) dL_law_710 rfl rfl rfl ?_
  refine ro_iload_n (pc' := 712) dL_law_711 rfl rfl rfl ?_
  refine ro_iconst (pc' := 713) dL_law_712 ic_1 rfl ?_
  refine ro_iadd (pc' := 714) dL_law_713 rfl ?_
  obtain ⟨v1, hv1, h⟩ := ah_bs h
  refine ro_sld (pc' := 715) hsc dL_law_714 rfl hv1 ?_
  refine ro_aload_n (pc' := 716) dL_law_715 rfl rfl rfl ?_
  refine ro_iload_n (pc' := 717) dL_law_716 rfl rfl rfl ?_
  refine ro_iconst (pc' := 718) dL_law_717 ic_2 rfl ?_
  refine ro_iadd (pc' := 719) dL_law_718 rfl ?_
  obtain ⟨v2, hv2, h⟩ := ah_bs h
  refine ro_sld (pc' := 720) hsc dL_law_719 rfl hv2 ?_
  obtain ⟨u3, hu3, h⟩ := ah_bs h
  obtain ⟨v4, σ5, hv4, h⟩ := ah_bs2 h
  refine ro_callV (pc' := 723) (As := [.int v1, .int v2]) (rest := []) (st' := [.long v4]) (by decide) hu3 q793 sl_X0_tin (M_X0_tin hv4) q792 q795 q95 dd_X0_tin rfl ⟨Nat.le_of_ble_eq_true rfl, Nat.le_of_ble_eq_true rfl⟩ (Nat.le_of_ble_eq_true rfl) dL_law_720 rfl rfl rfl ?_
  refine ro_aload_n (pc' := 724) dL_law_723 rfl rfl rfl ?_
  refine ro_aload_n (pc' := 725) dL_law_724 rfl rfl rfl ?_
  refine ro_iload_n (pc' := 726) dL_law_725 rfl rfl rfl ?_
  refine ro_iconst (pc' := 727) dL_law_726 ic_1 rfl ?_
  refine ro_iadd (pc' := 728) dL_law_727 rfl ?_
  obtain ⟨v6, hv6, h⟩ := ah_bs h
  refine ro_sld (pc' := 729) hsc dL_law_728 rfl hv6 ?_
  refine ro_aload_n (pc' := 730) dL_law_729 rfl rfl rfl ?_
  refine ro_iload_n (pc' := 731) dL_law_730 rfl rfl rfl ?_
  refine ro_iconst (pc' := 732) dL_law_731 ic_2 rfl ?_
  refine ro_iadd (pc' := 733) dL_law_732 rfl ?_
  obtain ⟨v7, hv7, h⟩ := ah_bs h
  refine ro_sld (pc' := 734) hsc dL_law_733 rfl hv7 ?_
  obtain ⟨u8, hu8, h⟩ := ah_bs h
  obtain ⟨v9, σ10, hv9, h⟩ := ah_bs2 h
  refine ro_callV (pc' := 737) (As := [.int v6, .int v7]) (rest := [.long v4]) (st' := [.long v9, .long v4]) (by decide) hu8 q1737 sl_X6_tin (M_X6_tin hv9) q1736 q1739 q104 dd_X6_tin rfl ⟨Nat.le_of_ble_eq_true rfl, Nat.le_of_ble_eq_true rfl⟩ (Nat.le_of_ble_eq_true rfl) dL_law_734 rfl rfl rfl ?_
  refine ro_lcmp (pc' := 738) dL_law_737 rfl ?_
  refine ro_if_eq (pc' := 741) (tgt := 1483) dL_law_738 rfl rfl (fun c => ?_) (fun c => ?_)
  · replace h := ah_ip c h
    exact hk1483 _ _ _ _ h
  · replace h := ah_in_ c h
    refine ro_iconst (pc' := 742) dL_law_741 ic_0 rfl ?_
    obtain rfl := Option.some.inj h
    exact ro_zret rfl hκ dL_law_742
set_option maxRecDepth 20000 in
set_option maxHeartbeats 4000000 in
theorem W_L_law_743 {κ : ah_C} {rr : (Int32 × ah_S)} (hκ : ah_res κ = (.returned (some (.int rr.1)), rr.2)) (hso : ah_kso κ) {sb sL : Nat} {sx : Nat → Int32} (hsc : ah_scr κ sb sL sx) {k1483 : ah_S → Option Nat → Option Nat → Int32 → Option (Int32 × ah_S)} (hk1483 : ∀ (σ : ah_S) (r1 : Option Nat) (r2 : Option Nat) (x3 : Int32), k1483 σ r1 r2 x3 = some rr → ah_G κ ("LeftAsFoundLaw", "law", 4, (some FieldType.boolean), [], 2048, 84000) cL_law σ 1483 [some (va_rf (some sb)), some (va_rf r1), some (va_rf r2), some (.int x3)] []) : ∀ (σ : ah_S) (r1 : Option Nat) (r2 : Option Nat) (x3 : Int32), F_L_law_743 sL sx k1483 σ r1 r2 x3 = some rr → ah_G κ ("LeftAsFoundLaw", "law", 4, (some FieldType.boolean), [], 2048, 84000) cL_law σ 743 [some (va_rf (some sb)), some (va_rf r1), some (va_rf r2), some (.int x3)] [] := by
  intro σ r1 r2 x3 h
  unfold F_L_law_743 at h
  refine ro_aload_n (pc' := 744) dL_law_743 rfl rfl rfl ?_
  refine ro_aload_n (pc' := 745) dL_law_744 rfl rfl rfl ?_
  refine ro_iload_n (pc' := 746) dL_law_745 rfl rfl rfl ?_
  refine ro_iconst (pc' := 747) dL_law_746 ic_1 rfl ?_
  refine ro_iadd (pc' := 748) dL_law_747 rfl ?_
  obtain ⟨v1, hv1, h⟩ := ah_bs h
  refine ro_sld (pc' := 749) hsc dL_law_748 rfl hv1 ?_
  refine ro_aload_n (pc' := 750) dL_law_749 rfl rfl rfl ?_
  refine ro_iload_n (pc' := 751) dL_law_750 rfl rfl rfl ?_
  refine ro_iconst (pc' := 752) dL_law_751 ic_2 rfl ?_
  refine ro_iadd (pc' := 753) dL_law_752 rfl ?_
  obtain ⟨v2, hv2, h⟩ := ah_bs h
  refine ro_sld (pc' := 754) hsc dL_law_753 rfl hv2 ?_
  refine ro_aload_n (pc' := 755) dL_law_754 rfl rfl rfl ?_
  refine ro_iload_n (pc' := 756) dL_law_755 rfl rfl rfl ?_
  refine ro_iconst (pc' := 757) dL_law_756 ic_3 rfl ?_
  refine ro_iadd (pc' := 758) dL_law_757 rfl ?_
  obtain ⟨v3, hv3, h⟩ := ah_bs h
  refine ro_sld (pc' := 759) hsc dL_law_758 rfl hv3 ?_
  obtain ⟨u4, hu4, h⟩ := ah_bs h
  obtain ⟨v5, σ6, hv5, h⟩ := ah_bs2 h
  refine ro_callV (pc' := 762) (As := [.int v1, .int v2, .int v3]) (rest := []) (st' := [.int v5]) (by decide) hu4 q806 sl_X0_who (M_X0_who hv5) q805 q808 q95 dd_X0_who rfl ⟨Nat.le_of_ble_eq_true rfl, Nat.le_of_ble_eq_true rfl⟩ (Nat.le_of_ble_eq_true rfl) dL_law_759 rfl rfl rfl ?_
  refine ro_aload_n (pc' := 763) dL_law_762 rfl rfl rfl ?_
  refine ro_aload_n (pc' := 764) dL_law_763 rfl rfl rfl ?_
  refine ro_iload_n (pc' := 765) dL_law_764 rfl rfl rfl ?_
  refine ro_iconst (pc' := 766) dL_law_765 ic_1 rfl ?_
  refine ro_iadd (pc' := 767) dL_law_766 rfl ?_
  obtain ⟨v7, hv7, h⟩ := ah_bs h
  refine ro_sld (pc' := 768) hsc dL_law_767 rfl hv7 ?_
  refine ro_aload_n (pc' := 769) dL_law_768 rfl rfl rfl ?_
  refine ro_iload_n (pc' := 770) dL_law_769 rfl rfl rfl ?_
  refine ro_iconst (pc' := 771) dL_law_770 ic_2 rfl ?_
  refine ro_iadd (pc' := 772) dL_law_771 rfl ?_
  obtain ⟨v8, hv8, h⟩ := ah_bs h
  refine ro_sld (pc' := 773) hsc dL_law_772 rfl hv8 ?_
  refine ro_aload_n (pc' := 774) dL_law_773 rfl rfl rfl ?_
  refine ro_iload_n (pc' := 775) dL_law_774 rfl rfl rfl ?_
  refine ro_iconst (pc' := 776) dL_law_775 ic_3 rfl ?_
  refine ro_iadd (pc' := 777) dL_law_776 rfl ?_
  obtain ⟨v9, hv9, h⟩ := ah_bs h
  refine ro_sld (pc' := 778) hsc dL_law_777 rfl hv9 ?_
  obtain ⟨u10, hu10, h⟩ := ah_bs h
  obtain ⟨v11, σ12, hv11, h⟩ := ah_bs2 h
  refine ro_callV (pc' := 781) (As := [.int v7, .int v8, .int v9]) (rest := [.int v5]) (st' := [.int v11, .int v5]) (by decide) hu10 q1746 sl_X6_who (M_X6_who hv11) q1745 q1748 q104 dd_X6_who rfl ⟨Nat.le_of_ble_eq_true rfl, Nat.le_of_ble_eq_true rfl⟩ (Nat.le_of_ble_eq_true rfl) dL_law_778 rfl rfl rfl ?_
  refine ro_icmp_eq (pc' := 784) (tgt := 1483) dL_law_781 rfl rfl (fun c => ?_) (fun c => ?_)
  · replace h := ah_ip c h
    exact hk1483 _ _ _ _ h
  · replace h := ah_in_ c h
    refine ro_iconst (pc' := 785) dL_law_784 ic_0 rfl ?_
    obtain rfl := Option.some.inj h
    exact ro_zret rfl hκ dL_law_785
set_option maxRecDepth 20000 in
set_option maxHeartbeats 4000000 in
theorem W_L_law_786 {κ : ah_C} {rr : (Int32 × ah_S)} (hκ : ah_res κ = (.returned (some (.int rr.1)), rr.2)) (hso : ah_kso κ) {sb sL : Nat} {sx : Nat → Int32} (hsc : ah_scr κ sb sL sx) {k1483 : ah_S → Option Nat → Option Nat → Int32 → Option (Int32 × ah_S)} (hk1483 : ∀ (σ : ah_S) (r1 : Option Nat) (r2 : Option Nat) (x3 : Int32), k1483 σ r1 r2 x3 = some rr → ah_G κ ("LeftAsFoundLaw", "law", 4, (some FieldType.boolean), [], 2048, 84000) cL_law σ 1483 [some (va_rf (some sb)), some (va_rf r1), some (va_rf r2), some (.int x3)] []) : ∀ (σ : ah_S) (r1 : Option Nat) (r2 : Option Nat) (x3 : Int32), F_L_law_786 sL sx k1483 σ r1 r2 x3 = some rr → ah_G κ ("LeftAsFoundLaw", "law", 4, (some FieldType.boolean), [], 2048, 84000) cL_law σ 786 [some (va_rf (some sb)), some (va_rf r1), some (va_rf r2), some (.int x3)] [] := by
  intro σ r1 r2 x3 h
  unfold F_L_law_786 at h
  refine ro_aload_n (pc' := 787) dL_law_786 rfl rfl rfl ?_
  refine ro_aload_n (pc' := 788) dL_law_787 rfl rfl rfl ?_
  refine ro_iload_n (pc' := 789) dL_law_788 rfl rfl rfl ?_
  refine ro_iconst (pc' := 790) dL_law_789 ic_1 rfl ?_
  refine ro_iadd (pc' := 791) dL_law_790 rfl ?_
  obtain ⟨v1, hv1, h⟩ := ah_bs h
  refine ro_sld (pc' := 792) hsc dL_law_791 rfl hv1 ?_
  refine ro_aload_n (pc' := 793) dL_law_792 rfl rfl rfl ?_
  refine ro_iload_n (pc' := 794) dL_law_793 rfl rfl rfl ?_
  refine ro_iconst (pc' := 795) dL_law_794 ic_2 rfl ?_
  refine ro_iadd (pc' := 796) dL_law_795 rfl ?_
  obtain ⟨v2, hv2, h⟩ := ah_bs h
  refine ro_sld (pc' := 797) hsc dL_law_796 rfl hv2 ?_
  obtain ⟨u3, hu3, h⟩ := ah_bs h
  obtain ⟨v4, σ5, hv4, h⟩ := ah_bs2 h
  refine ro_callV (pc' := 800) (As := [.int v1, .int v2]) (rest := []) (st' := [.int v4]) (by decide) hu3 q818 sl_X0_ways (M_X0_ways hv4) q817 q820 q95 dd_X0_ways rfl ⟨Nat.le_of_ble_eq_true rfl, Nat.le_of_ble_eq_true rfl⟩ (Nat.le_of_ble_eq_true rfl) dL_law_797 rfl rfl rfl ?_
  refine ro_aload_n (pc' := 801) dL_law_800 rfl rfl rfl ?_
  refine ro_aload_n (pc' := 802) dL_law_801 rfl rfl rfl ?_
  refine ro_iload_n (pc' := 803) dL_law_802 rfl rfl rfl ?_
  refine ro_iconst (pc' := 804) dL_law_803 ic_1 rfl ?_
  refine ro_iadd (pc' := 805) dL_law_804 rfl ?_
  obtain ⟨v6, hv6, h⟩ := ah_bs h
  refine ro_sld (pc' := 806) hsc dL_law_805 rfl hv6 ?_
  refine ro_aload_n (pc' := 807) dL_law_806 rfl rfl rfl ?_
  refine ro_iload_n (pc' := 808) dL_law_807 rfl rfl rfl ?_
  refine ro_iconst (pc' := 809) dL_law_808 ic_2 rfl ?_
  refine ro_iadd (pc' := 810) dL_law_809 rfl ?_
  obtain ⟨v7, hv7, h⟩ := ah_bs h
  refine ro_sld (pc' := 811) hsc dL_law_810 rfl hv7 ?_
  obtain ⟨u8, hu8, h⟩ := ah_bs h
  obtain ⟨v9, σ10, hv9, h⟩ := ah_bs2 h
  refine ro_callV (pc' := 814) (As := [.int v6, .int v7]) (rest := [.int v4]) (st' := [.int v9, .int v4]) (by decide) hu8 q1762 sl_X6_ways (M_X6_ways hv9) q1761 q1764 q104 dd_X6_ways rfl ⟨Nat.le_of_ble_eq_true rfl, Nat.le_of_ble_eq_true rfl⟩ (Nat.le_of_ble_eq_true rfl) dL_law_811 rfl rfl rfl ?_
  refine ro_icmp_eq (pc' := 817) (tgt := 1483) dL_law_814 rfl rfl (fun c => ?_) (fun c => ?_)
  · replace h := ah_ip c h
    exact hk1483 _ _ _ _ h
  · replace h := ah_in_ c h
    refine ro_iconst (pc' := 818) dL_law_817 ic_0 rfl ?_
    obtain rfl := Option.some.inj h
    exact ro_zret rfl hκ dL_law_818
set_option maxRecDepth 20000 in
set_option maxHeartbeats 4000000 in
theorem W_L_law_819 {κ : ah_C} {rr : (Int32 × ah_S)} (hκ : ah_res κ = (.returned (some (.int rr.1)), rr.2)) (hso : ah_kso κ) {sb sL : Nat} {sx : Nat → Int32} (hsc : ah_scr κ sb sL sx) {k1483 : ah_S → Option Nat → Option Nat → Int32 → Option (Int32 × ah_S)} (hk1483 : ∀ (σ : ah_S) (r1 : Option Nat) (r2 : Option Nat) (x3 : Int32), k1483 σ r1 r2 x3 = some rr → ah_G κ ("LeftAsFoundLaw", "law", 4, (some FieldType.boolean), [], 2048, 84000) cL_law σ 1483 [some (va_rf (some sb)), some (va_rf r1), some (va_rf r2), some (.int x3)] []) : ∀ (σ : ah_S) (r1 : Option Nat) (r2 : Option Nat) (x3 : Int32), F_L_law_819 sL sx k1483 σ r1 r2 x3 = some rr → ah_G κ ("LeftAsFoundLaw", "law", 4, (some FieldType.boolean), [], 2048, 84000) cL_law σ 819 [some (va_rf (some sb)), some (va_rf r1), some (va_rf r2), some (.int x3)] [] := by
  intro σ r1 r2 x3 h
  unfold F_L_law_819 at h
  refine ro_aload_n (pc' := 820) dL_law_819 rfl rfl rfl ?_
  refine ro_aload_n (pc' := 821) dL_law_820 rfl rfl rfl ?_
  refine ro_iload_n (pc' := 822) dL_law_821 rfl rfl rfl ?_
  refine ro_iconst (pc' := 823) dL_law_822 ic_1 rfl ?_
  refine ro_iadd (pc' := 824) dL_law_823 rfl ?_
  obtain ⟨v1, hv1, h⟩ := ah_bs h
  refine ro_sld (pc' := 825) hsc dL_law_824 rfl hv1 ?_
  refine ro_aload_n (pc' := 826) dL_law_825 rfl rfl rfl ?_
  refine ro_iload_n (pc' := 827) dL_law_826 rfl rfl rfl ?_
  refine ro_iconst (pc' := 828) dL_law_827 ic_2 rfl ?_
  refine ro_iadd (pc' := 829) dL_law_828 rfl ?_
  obtain ⟨v2, hv2, h⟩ := ah_bs h
  refine ro_sld (pc' := 830) hsc dL_law_829 rfl hv2 ?_
  obtain ⟨u3, hu3, h⟩ := ah_bs h
  obtain ⟨v4, σ5, hv4, h⟩ := ah_bs2 h
  refine ro_callV (pc' := 833) (As := [.int v1, .int v2]) (rest := []) (st' := [.int v4]) (by decide) hu3 q822 sl_X0_judge (M_X0_judge hv4) q821 q824 q95 dd_X0_judge rfl ⟨Nat.le_of_ble_eq_true rfl, Nat.le_of_ble_eq_true rfl⟩ (Nat.le_of_ble_eq_true rfl) dL_law_830 rfl rfl rfl ?_
  refine ro_aload_n (pc' := 834) dL_law_833 rfl rfl rfl ?_
  refine ro_aload_n (pc' := 835) dL_law_834 rfl rfl rfl ?_
  refine ro_iload_n (pc' := 836) dL_law_835 rfl rfl rfl ?_
  refine ro_iconst (pc' := 837) dL_law_836 ic_1 rfl ?_
  refine ro_iadd (pc' := 838) dL_law_837 rfl ?_
  obtain ⟨v6, hv6, h⟩ := ah_bs h
  refine ro_sld (pc' := 839) hsc dL_law_838 rfl hv6 ?_
  refine ro_aload_n (pc' := 840) dL_law_839 rfl rfl rfl ?_
  refine ro_iload_n (pc' := 841) dL_law_840 rfl rfl rfl ?_
  refine ro_iconst (pc' := 842) dL_law_841 ic_2 rfl ?_
  refine ro_iadd (pc' := 843) dL_law_842 rfl ?_
  obtain ⟨v7, hv7, h⟩ := ah_bs h
  refine ro_sld (pc' := 844) hsc dL_law_843 rfl hv7 ?_
  obtain ⟨u8, hu8, h⟩ := ah_bs h
  obtain ⟨v9, σ10, hv9, h⟩ := ah_bs2 h
  refine ro_callV (pc' := 847) (As := [.int v6, .int v7]) (rest := [.int v4]) (st' := [.int v9, .int v4]) (by decide) hu8 q1766 sl_X6_judge (M_X6_judge hv9) q1765 q1768 q104 dd_X6_judge rfl ⟨Nat.le_of_ble_eq_true rfl, Nat.le_of_ble_eq_true rfl⟩ (Nat.le_of_ble_eq_true rfl) dL_law_844 rfl rfl rfl ?_
  refine ro_icmp_eq (pc' := 850) (tgt := 1483) dL_law_847 rfl rfl (fun c => ?_) (fun c => ?_)
  · replace h := ah_ip c h
    exact hk1483 _ _ _ _ h
  · replace h := ah_in_ c h
    refine ro_iconst (pc' := 851) dL_law_850 ic_0 rfl ?_
    obtain rfl := Option.some.inj h
    exact ro_zret rfl hκ dL_law_851
set_option maxRecDepth 20000 in
set_option maxHeartbeats 4000000 in
theorem W_L_law_852 {κ : ah_C} {rr : (Int32 × ah_S)} (hκ : ah_res κ = (.returned (some (.int rr.1)), rr.2)) (hso : ah_kso κ) {sb sL : Nat} {sx : Nat → Int32} (hsc : ah_scr κ sb sL sx) {k1483 : ah_S → Option Nat → Option Nat → Int32 → Option (Int32 × ah_S)} (hk1483 : ∀ (σ : ah_S) (r1 : Option Nat) (r2 : Option Nat) (x3 : Int32), k1483 σ r1 r2 x3 = some rr → ah_G κ ("LeftAsFoundLaw", "law", 4, (some FieldType.boolean), [], 2048, 84000) cL_law σ 1483 [some (va_rf (some sb)), some (va_rf r1), some (va_rf r2), some (.int x3)] []) : ∀ (σ : ah_S) (r1 : Option Nat) (r2 : Option Nat) (x3 : Int32), F_L_law_852 sL sx k1483 σ r1 r2 x3 = some rr → ah_G κ ("LeftAsFoundLaw", "law", 4, (some FieldType.boolean), [], 2048, 84000) cL_law σ 852 [some (va_rf (some sb)), some (va_rf r1), some (va_rf r2), some (.int x3)] [] := by
  intro σ r1 r2 x3 h
  unfold F_L_law_852 at h
  refine ro_aload_n (pc' := 853) dL_law_852 rfl rfl rfl ?_
  refine ro_aload_n (pc' := 854) dL_law_853 rfl rfl rfl ?_
  refine ro_iload_n (pc' := 855) dL_law_854 rfl rfl rfl ?_
  refine ro_iconst (pc' := 856) dL_law_855 ic_1 rfl ?_
  refine ro_iadd (pc' := 857) dL_law_856 rfl ?_
  obtain ⟨v1, hv1, h⟩ := ah_bs h
  refine ro_sld (pc' := 858) hsc dL_law_857 rfl hv1 ?_
  refine ro_aload_n (pc' := 859) dL_law_858 rfl rfl rfl ?_
  refine ro_iload_n (pc' := 860) dL_law_859 rfl rfl rfl ?_
  refine ro_iconst (pc' := 861) dL_law_860 ic_2 rfl ?_
  refine ro_iadd (pc' := 862) dL_law_861 rfl ?_
  obtain ⟨v2, hv2, h⟩ := ah_bs h
  refine ro_sld (pc' := 863) hsc dL_law_862 rfl hv2 ?_
  refine ro_aload_n (pc' := 864) dL_law_863 rfl rfl rfl ?_
  refine ro_iload_n (pc' := 865) dL_law_864 rfl rfl rfl ?_
  refine ro_iconst (pc' := 866) dL_law_865 ic_3 rfl ?_
  refine ro_iadd (pc' := 867) dL_law_866 rfl ?_
  obtain ⟨v3, hv3, h⟩ := ah_bs h
  refine ro_sld (pc' := 868) hsc dL_law_867 rfl hv3 ?_
  obtain ⟨u4, hu4, h⟩ := ah_bs h
  obtain ⟨v5, σ6, hv5, h⟩ := ah_bs2 h
  refine ro_callV (pc' := 871) (As := [.int v1, .int v2, .int v3]) (rest := []) (st' := [.int v5]) (by decide) hu4 q826 sl_X0_since (M_X0_since hv5) q825 q828 q95 dd_X0_since rfl ⟨Nat.le_of_ble_eq_true rfl, Nat.le_of_ble_eq_true rfl⟩ (Nat.le_of_ble_eq_true rfl) dL_law_868 rfl rfl rfl ?_
  refine ro_aload_n (pc' := 872) dL_law_871 rfl rfl rfl ?_
  refine ro_aload_n (pc' := 873) dL_law_872 rfl rfl rfl ?_
  refine ro_iload_n (pc' := 874) dL_law_873 rfl rfl rfl ?_
  refine ro_iconst (pc' := 875) dL_law_874 ic_1 rfl ?_
  refine ro_iadd (pc' := 876) dL_law_875 rfl ?_
  obtain ⟨v7, hv7, h⟩ := ah_bs h
  refine ro_sld (pc' := 877) hsc dL_law_876 rfl hv7 ?_
  refine ro_aload_n (pc' := 878) dL_law_877 rfl rfl rfl ?_
  refine ro_iload_n (pc' := 879) dL_law_878 rfl rfl rfl ?_
  refine ro_iconst (pc' := 880) dL_law_879 ic_2 rfl ?_
  refine ro_iadd (pc' := 881) dL_law_880 rfl ?_
  obtain ⟨v8, hv8, h⟩ := ah_bs h
  refine ro_sld (pc' := 882) hsc dL_law_881 rfl hv8 ?_
  refine ro_aload_n (pc' := 883) dL_law_882 rfl rfl rfl ?_
  refine ro_iload_n (pc' := 884) dL_law_883 rfl rfl rfl ?_
  refine ro_iconst (pc' := 885) dL_law_884 ic_3 rfl ?_
  refine ro_iadd (pc' := 886) dL_law_885 rfl ?_
  obtain ⟨v9, hv9, h⟩ := ah_bs h
  refine ro_sld (pc' := 887) hsc dL_law_886 rfl hv9 ?_
  obtain ⟨u10, hu10, h⟩ := ah_bs h
  obtain ⟨v11, σ12, hv11, h⟩ := ah_bs2 h
  refine ro_callV (pc' := 890) (As := [.int v7, .int v8, .int v9]) (rest := [.int v5]) (st' := [.int v11, .int v5]) (by decide) hu10 q1770 sl_X6_since (M_X6_since hv11) q1769 q1772 q104 dd_X6_since rfl ⟨Nat.le_of_ble_eq_true rfl, Nat.le_of_ble_eq_true rfl⟩ (Nat.le_of_ble_eq_true rfl) dL_law_887 rfl rfl rfl ?_
  refine ro_icmp_eq (pc' := 893) (tgt := 1483) dL_law_890 rfl rfl (fun c => ?_) (fun c => ?_)
  · replace h := ah_ip c h
    exact hk1483 _ _ _ _ h
  · replace h := ah_in_ c h
    refine ro_iconst (pc' := 894) dL_law_893 ic_0 rfl ?_
    obtain rfl := Option.some.inj h
    exact ro_zret rfl hκ dL_law_894
set_option maxRecDepth 20000 in
set_option maxHeartbeats 4000000 in
theorem W_L_law_895 {κ : ah_C} {rr : (Int32 × ah_S)} (hκ : ah_res κ = (.returned (some (.int rr.1)), rr.2)) (hso : ah_kso κ) {sb sL : Nat} {sx : Nat → Int32} (hsc : ah_scr κ sb sL sx) {k1483 : ah_S → Option Nat → Option Nat → Int32 → Option (Int32 × ah_S)} (hk1483 : ∀ (σ : ah_S) (r1 : Option Nat) (r2 : Option Nat) (x3 : Int32), k1483 σ r1 r2 x3 = some rr → ah_G κ ("LeftAsFoundLaw", "law", 4, (some FieldType.boolean), [], 2048, 84000) cL_law σ 1483 [some (va_rf (some sb)), some (va_rf r1), some (va_rf r2), some (.int x3)] []) : ∀ (σ : ah_S) (r1 : Option Nat) (r2 : Option Nat) (x3 : Int32), F_L_law_895 sL sx k1483 σ r1 r2 x3 = some rr → ah_G κ ("LeftAsFoundLaw", "law", 4, (some FieldType.boolean), [], 2048, 84000) cL_law σ 895 [some (va_rf (some sb)), some (va_rf r1), some (va_rf r2), some (.int x3)] [] := by
  intro σ r1 r2 x3 h
  unfold F_L_law_895 at h
  refine ro_aload_n (pc' := 896) dL_law_895 rfl rfl rfl ?_
  refine ro_aload_n (pc' := 897) dL_law_896 rfl rfl rfl ?_
  refine ro_iload_n (pc' := 898) dL_law_897 rfl rfl rfl ?_
  refine ro_iconst (pc' := 899) dL_law_898 ic_1 rfl ?_
  refine ro_iadd (pc' := 900) dL_law_899 rfl ?_
  obtain ⟨v1, hv1, h⟩ := ah_bs h
  refine ro_sld (pc' := 901) hsc dL_law_900 rfl hv1 ?_
  refine ro_aload_n (pc' := 902) dL_law_901 rfl rfl rfl ?_
  refine ro_iload_n (pc' := 903) dL_law_902 rfl rfl rfl ?_
  refine ro_iconst (pc' := 904) dL_law_903 ic_2 rfl ?_
  refine ro_iadd (pc' := 905) dL_law_904 rfl ?_
  obtain ⟨v2, hv2, h⟩ := ah_bs h
  refine ro_sld (pc' := 906) hsc dL_law_905 rfl hv2 ?_
  refine ro_aload_n (pc' := 907) dL_law_906 rfl rfl rfl ?_
  refine ro_iload_n (pc' := 908) dL_law_907 rfl rfl rfl ?_
  refine ro_iconst (pc' := 909) dL_law_908 ic_3 rfl ?_
  refine ro_iadd (pc' := 910) dL_law_909 rfl ?_
  obtain ⟨v3, hv3, h⟩ := ah_bs h
  refine ro_sld (pc' := 911) hsc dL_law_910 rfl hv3 ?_
  obtain ⟨u4, hu4, h⟩ := ah_bs h
  obtain ⟨v5, σ6, hv5, h⟩ := ah_bs2 h
  refine ro_callV (pc' := 914) (As := [.int v1, .int v2, .int v3]) (rest := []) (st' := [.int v5]) (by decide) hu4 q830 sl_X0_drawn (M_X0_drawn hv5) q829 q832 q95 dd_X0_drawn rfl ⟨Nat.le_of_ble_eq_true rfl, Nat.le_of_ble_eq_true rfl⟩ (Nat.le_of_ble_eq_true rfl) dL_law_911 rfl rfl rfl ?_
  refine ro_aload_n (pc' := 915) dL_law_914 rfl rfl rfl ?_
  refine ro_aload_n (pc' := 916) dL_law_915 rfl rfl rfl ?_
  refine ro_iload_n (pc' := 917) dL_law_916 rfl rfl rfl ?_
  refine ro_iconst (pc' := 918) dL_law_917 ic_1 rfl ?_
  refine ro_iadd (pc' := 919) dL_law_918 rfl ?_
  obtain ⟨v7, hv7, h⟩ := ah_bs h
  refine ro_sld (pc' := 920) hsc dL_law_919 rfl hv7 ?_
  refine ro_aload_n (pc' := 921) dL_law_920 rfl rfl rfl ?_
  refine ro_iload_n (pc' := 922) dL_law_921 rfl rfl rfl ?_
  refine ro_iconst (pc' := 923) dL_law_922 ic_2 rfl ?_
  refine ro_iadd (pc' := 924) dL_law_923 rfl ?_
  obtain ⟨v8, hv8, h⟩ := ah_bs h
  refine ro_sld (pc' := 925) hsc dL_law_924 rfl hv8 ?_
  refine ro_aload_n (pc' := 926) dL_law_925 rfl rfl rfl ?_
  refine ro_iload_n (pc' := 927) dL_law_926 rfl rfl rfl ?_
  refine ro_iconst (pc' := 928) dL_law_927 ic_3 rfl ?_
  refine ro_iadd (pc' := 929) dL_law_928 rfl ?_
  obtain ⟨v9, hv9, h⟩ := ah_bs h
  refine ro_sld (pc' := 930) hsc dL_law_929 rfl hv9 ?_
  obtain ⟨u10, hu10, h⟩ := ah_bs h
  obtain ⟨v11, σ12, hv11, h⟩ := ah_bs2 h
  refine ro_callV (pc' := 933) (As := [.int v7, .int v8, .int v9]) (rest := [.int v5]) (st' := [.int v11, .int v5]) (by decide) hu10 q1774 sl_X6_drawn (M_X6_drawn hv11) q1773 q1776 q104 dd_X6_drawn rfl ⟨Nat.le_of_ble_eq_true rfl, Nat.le_of_ble_eq_true rfl⟩ (Nat.le_of_ble_eq_true rfl) dL_law_930 rfl rfl rfl ?_
  refine ro_icmp_eq (pc' := 936) (tgt := 1483) dL_law_933 rfl rfl (fun c => ?_) (fun c => ?_)
  · replace h := ah_ip c h
    exact hk1483 _ _ _ _ h
  · replace h := ah_in_ c h
    refine ro_iconst (pc' := 937) dL_law_936 ic_0 rfl ?_
    obtain rfl := Option.some.inj h
    exact ro_zret rfl hκ dL_law_937
set_option maxRecDepth 20000 in
set_option maxHeartbeats 4000000 in
theorem W_L_law_938 {κ : ah_C} {rr : (Int32 × ah_S)} (hκ : ah_res κ = (.returned (some (.int rr.1)), rr.2)) (hso : ah_kso κ) {sb sL : Nat} {sx : Nat → Int32} (hsc : ah_scr κ sb sL sx) {k1483 : ah_S → Option Nat → Option Nat → Int32 → Option (Int32 × ah_S)} (hk1483 : ∀ (σ : ah_S) (r1 : Option Nat) (r2 : Option Nat) (x3 : Int32), k1483 σ r1 r2 x3 = some rr → ah_G κ ("LeftAsFoundLaw", "law", 4, (some FieldType.boolean), [], 2048, 84000) cL_law σ 1483 [some (va_rf (some sb)), some (va_rf r1), some (va_rf r2), some (.int x3)] []) : ∀ (σ : ah_S) (r1 : Option Nat) (r2 : Option Nat) (x3 : Int32), F_L_law_938 sL sx k1483 σ r1 r2 x3 = some rr → ah_G κ ("LeftAsFoundLaw", "law", 4, (some FieldType.boolean), [], 2048, 84000) cL_law σ 938 [some (va_rf (some sb)), some (va_rf r1), some (va_rf r2), some (.int x3)] [] := by
  intro σ r1 r2 x3 h
  unfold F_L_law_938 at h
  refine ro_aload_n (pc' := 939) dL_law_938 rfl rfl rfl ?_
  refine ro_aload_n (pc' := 940) dL_law_939 rfl rfl rfl ?_
  refine ro_iload_n (pc' := 941) dL_law_940 rfl rfl rfl ?_
  refine ro_iconst (pc' := 942) dL_law_941 ic_1 rfl ?_
  refine ro_iadd (pc' := 943) dL_law_942 rfl ?_
  obtain ⟨v1, hv1, h⟩ := ah_bs h
  refine ro_sld (pc' := 944) hsc dL_law_943 rfl hv1 ?_
  obtain ⟨u2, hu2, h⟩ := ah_bs h
  obtain ⟨v3, σ4, hv3, h⟩ := ah_bs2 h
  refine ro_callV (pc' := 947) (As := [.int v1]) (rest := []) (st' := [.int v3]) (by decide) hu2 q836 sl_X0_night (M_X0_night hv3) q835 q838 q95 dd_X0_night rfl ⟨Nat.le_of_ble_eq_true rfl, Nat.le_of_ble_eq_true rfl⟩ (Nat.le_of_ble_eq_true rfl) dL_law_944 rfl rfl rfl ?_
  refine ro_aload_n (pc' := 948) dL_law_947 rfl rfl rfl ?_
  refine ro_aload_n (pc' := 949) dL_law_948 rfl rfl rfl ?_
  refine ro_iload_n (pc' := 950) dL_law_949 rfl rfl rfl ?_
  refine ro_iconst (pc' := 951) dL_law_950 ic_1 rfl ?_
  refine ro_iadd (pc' := 952) dL_law_951 rfl ?_
  obtain ⟨v5, hv5, h⟩ := ah_bs h
  refine ro_sld (pc' := 953) hsc dL_law_952 rfl hv5 ?_
  obtain ⟨u6, hu6, h⟩ := ah_bs h
  obtain ⟨v7, σ8, hv7, h⟩ := ah_bs2 h
  refine ro_callV (pc' := 956) (As := [.int v5]) (rest := [.int v3]) (st' := [.int v7, .int v3]) (by decide) hu6 q1779 sl_X6_night (M_X6_night hv7) q1778 q1781 q104 dd_X6_night rfl ⟨Nat.le_of_ble_eq_true rfl, Nat.le_of_ble_eq_true rfl⟩ (Nat.le_of_ble_eq_true rfl) dL_law_953 rfl rfl rfl ?_
  refine ro_icmp_eq (pc' := 959) (tgt := 1483) dL_law_956 rfl rfl (fun c => ?_) (fun c => ?_)
  · replace h := ah_ip c h
    exact hk1483 _ _ _ _ h
  · replace h := ah_in_ c h
    refine ro_iconst (pc' := 960) dL_law_959 ic_0 rfl ?_
    obtain rfl := Option.some.inj h
    exact ro_zret rfl hκ dL_law_960
set_option maxRecDepth 20000 in
set_option maxHeartbeats 4000000 in
theorem W_L_law_961 {κ : ah_C} {rr : (Int32 × ah_S)} (hκ : ah_res κ = (.returned (some (.int rr.1)), rr.2)) (hso : ah_kso κ) {sb sL : Nat} {sx : Nat → Int32} (hsc : ah_scr κ sb sL sx) {k1483 : ah_S → Option Nat → Option Nat → Int32 → Option (Int32 × ah_S)} (hk1483 : ∀ (σ : ah_S) (r1 : Option Nat) (r2 : Option Nat) (x3 : Int32), k1483 σ r1 r2 x3 = some rr → ah_G κ ("LeftAsFoundLaw", "law", 4, (some FieldType.boolean), [], 2048, 84000) cL_law σ 1483 [some (va_rf (some sb)), some (va_rf r1), some (va_rf r2), some (.int x3)] []) : ∀ (σ : ah_S) (r1 : Option Nat) (r2 : Option Nat) (x3 : Int32), F_L_law_961 sL sx k1483 σ r1 r2 x3 = some rr → ah_G κ ("LeftAsFoundLaw", "law", 4, (some FieldType.boolean), [], 2048, 84000) cL_law σ 961 [some (va_rf (some sb)), some (va_rf r1), some (va_rf r2), some (.int x3)] [] := by
  intro σ r1 r2 x3 h
  unfold F_L_law_961 at h
  refine ro_aload_n (pc' := 962) dL_law_961 rfl rfl rfl ?_
  refine ro_aload_n (pc' := 963) dL_law_962 rfl rfl rfl ?_
  refine ro_iload_n (pc' := 964) dL_law_963 rfl rfl rfl ?_
  refine ro_iconst (pc' := 965) dL_law_964 ic_1 rfl ?_
  refine ro_iadd (pc' := 966) dL_law_965 rfl ?_
  obtain ⟨v1, hv1, h⟩ := ah_bs h
  refine ro_sld (pc' := 967) hsc dL_law_966 rfl hv1 ?_
  refine ro_aload_n (pc' := 968) dL_law_967 rfl rfl rfl ?_
  refine ro_iload_n (pc' := 969) dL_law_968 rfl rfl rfl ?_
  refine ro_iconst (pc' := 970) dL_law_969 ic_2 rfl ?_
  refine ro_iadd (pc' := 971) dL_law_970 rfl ?_
  obtain ⟨v2, hv2, h⟩ := ah_bs h
  refine ro_sld (pc' := 972) hsc dL_law_971 rfl hv2 ?_
  obtain ⟨u3, hu3, h⟩ := ah_bs h
  obtain ⟨v4, σ5, hv4, h⟩ := ah_bs2 h
  refine ro_callV (pc' := 975) (As := [.int v1, .int v2]) (rest := []) (st' := [.int v4]) (by decide) hu3 q840 sl_X0_set (M_X0_set hv4) q839 q842 q95 dd_X0_set rfl ⟨Nat.le_of_ble_eq_true rfl, Nat.le_of_ble_eq_true rfl⟩ (Nat.le_of_ble_eq_true rfl) dL_law_972 rfl rfl rfl ?_
  refine ro_aload_n (pc' := 976) dL_law_975 rfl rfl rfl ?_
  refine ro_aload_n (pc' := 977) dL_law_976 rfl rfl rfl ?_
  refine ro_iload_n (pc' := 978) dL_law_977 rfl rfl rfl ?_
  refine ro_iconst (pc' := 979) dL_law_978 ic_1 rfl ?_
  refine ro_iadd (pc' := 980) dL_law_979 rfl ?_
  obtain ⟨v6, hv6, h⟩ := ah_bs h
  refine ro_sld (pc' := 981) hsc dL_law_980 rfl hv6 ?_
  refine ro_aload_n (pc' := 982) dL_law_981 rfl rfl rfl ?_
  refine ro_iload_n (pc' := 983) dL_law_982 rfl rfl rfl ?_
  refine ro_iconst (pc' := 984) dL_law_983 ic_2 rfl ?_
  refine ro_iadd (pc' := 985) dL_law_984 rfl ?_
  obtain ⟨v7, hv7, h⟩ := ah_bs h
  refine ro_sld (pc' := 986) hsc dL_law_985 rfl hv7 ?_
  obtain ⟨u8, hu8, h⟩ := ah_bs h
  obtain ⟨v9, σ10, hv9, h⟩ := ah_bs2 h
  refine ro_callV (pc' := 989) (As := [.int v6, .int v7]) (rest := [.int v4]) (st' := [.int v9, .int v4]) (by decide) hu8 q1783 sl_X6_set (M_X6_set hv9) q1782 q1785 q104 dd_X6_set rfl ⟨Nat.le_of_ble_eq_true rfl, Nat.le_of_ble_eq_true rfl⟩ (Nat.le_of_ble_eq_true rfl) dL_law_986 rfl rfl rfl ?_
  refine ro_icmp_eq (pc' := 992) (tgt := 1483) dL_law_989 rfl rfl (fun c => ?_) (fun c => ?_)
  · replace h := ah_ip c h
    exact hk1483 _ _ _ _ h
  · replace h := ah_in_ c h
    refine ro_iconst (pc' := 993) dL_law_992 ic_0 rfl ?_
    obtain rfl := Option.some.inj h
    exact ro_zret rfl hκ dL_law_993
set_option maxRecDepth 20000 in
set_option maxHeartbeats 4000000 in
theorem W_L_law_994 {κ : ah_C} {rr : (Int32 × ah_S)} (hκ : ah_res κ = (.returned (some (.int rr.1)), rr.2)) (hso : ah_kso κ) {sb sL : Nat} {sx : Nat → Int32} (hsc : ah_scr κ sb sL sx) {k1483 : ah_S → Option Nat → Option Nat → Int32 → Option (Int32 × ah_S)} (hk1483 : ∀ (σ : ah_S) (r1 : Option Nat) (r2 : Option Nat) (x3 : Int32), k1483 σ r1 r2 x3 = some rr → ah_G κ ("LeftAsFoundLaw", "law", 4, (some FieldType.boolean), [], 2048, 84000) cL_law σ 1483 [some (va_rf (some sb)), some (va_rf r1), some (va_rf r2), some (.int x3)] []) : ∀ (σ : ah_S) (r1 : Option Nat) (r2 : Option Nat) (x3 : Int32), F_L_law_994 sL sx k1483 σ r1 r2 x3 = some rr → ah_G κ ("LeftAsFoundLaw", "law", 4, (some FieldType.boolean), [], 2048, 84000) cL_law σ 994 [some (va_rf (some sb)), some (va_rf r1), some (va_rf r2), some (.int x3)] [] := by
  intro σ r1 r2 x3 h
  unfold F_L_law_994 at h
  refine ro_aload_n (pc' := 995) dL_law_994 rfl rfl rfl ?_
  refine ro_aload_n (pc' := 996) dL_law_995 rfl rfl rfl ?_
  refine ro_iload_n (pc' := 997) dL_law_996 rfl rfl rfl ?_
  refine ro_iconst (pc' := 998) dL_law_997 ic_1 rfl ?_
  refine ro_iadd (pc' := 999) dL_law_998 rfl ?_
  obtain ⟨v1, hv1, h⟩ := ah_bs h
  refine ro_sld (pc' := 1000) hsc dL_law_999 rfl hv1 ?_
  obtain ⟨u2, hu2, h⟩ := ah_bs h
  obtain ⟨v3, σ4, hv3, h⟩ := ah_bs2 h
  refine ro_callV (pc' := 1003) (As := [.int v1]) (rest := []) (st' := [.int v3]) (by decide) hu2 q844 sl_X0_forget (M_X0_forget hv3) q843 q846 q95 dd_X0_forget rfl ⟨Nat.le_of_ble_eq_true rfl, Nat.le_of_ble_eq_true rfl⟩ (Nat.le_of_ble_eq_true rfl) dL_law_1000 rfl rfl rfl ?_
  refine ro_aload_n (pc' := 1004) dL_law_1003 rfl rfl rfl ?_
  refine ro_aload_n (pc' := 1005) dL_law_1004 rfl rfl rfl ?_
  refine ro_iload_n (pc' := 1006) dL_law_1005 rfl rfl rfl ?_
  refine ro_iconst (pc' := 1007) dL_law_1006 ic_1 rfl ?_
  refine ro_iadd (pc' := 1008) dL_law_1007 rfl ?_
  obtain ⟨v5, hv5, h⟩ := ah_bs h
  refine ro_sld (pc' := 1009) hsc dL_law_1008 rfl hv5 ?_
  obtain ⟨u6, hu6, h⟩ := ah_bs h
  obtain ⟨v7, σ8, hv7, h⟩ := ah_bs2 h
  refine ro_callV (pc' := 1012) (As := [.int v5]) (rest := [.int v3]) (st' := [.int v7, .int v3]) (by decide) hu6 q1787 sl_X6_forget (M_X6_forget hv7) q1786 q1789 q104 dd_X6_forget rfl ⟨Nat.le_of_ble_eq_true rfl, Nat.le_of_ble_eq_true rfl⟩ (Nat.le_of_ble_eq_true rfl) dL_law_1009 rfl rfl rfl ?_
  refine ro_icmp_eq (pc' := 1015) (tgt := 1483) dL_law_1012 rfl rfl (fun c => ?_) (fun c => ?_)
  · replace h := ah_ip c h
    exact hk1483 _ _ _ _ h
  · replace h := ah_in_ c h
    refine ro_iconst (pc' := 1016) dL_law_1015 ic_0 rfl ?_
    obtain rfl := Option.some.inj h
    exact ro_zret rfl hκ dL_law_1016
set_option maxRecDepth 20000 in
set_option maxHeartbeats 4000000 in
theorem W_L_law_1017 {κ : ah_C} {rr : (Int32 × ah_S)} (hκ : ah_res κ = (.returned (some (.int rr.1)), rr.2)) (hso : ah_kso κ) {sb sL : Nat} {sx : Nat → Int32} (hsc : ah_scr κ sb sL sx) {k1483 : ah_S → Option Nat → Option Nat → Int32 → Option (Int32 × ah_S)} (hk1483 : ∀ (σ : ah_S) (r1 : Option Nat) (r2 : Option Nat) (x3 : Int32), k1483 σ r1 r2 x3 = some rr → ah_G κ ("LeftAsFoundLaw", "law", 4, (some FieldType.boolean), [], 2048, 84000) cL_law σ 1483 [some (va_rf (some sb)), some (va_rf r1), some (va_rf r2), some (.int x3)] []) : ∀ (σ : ah_S) (r1 : Option Nat) (r2 : Option Nat) (x3 : Int32), F_L_law_1017 sL sx k1483 σ r1 r2 x3 = some rr → ah_G κ ("LeftAsFoundLaw", "law", 4, (some FieldType.boolean), [], 2048, 84000) cL_law σ 1017 [some (va_rf (some sb)), some (va_rf r1), some (va_rf r2), some (.int x3)] [] := by
  intro σ r1 r2 x3 h
  unfold F_L_law_1017 at h
  refine ro_aload_n (pc' := 1018) dL_law_1017 rfl rfl rfl ?_
  refine ro_aload_n (pc' := 1019) dL_law_1018 rfl rfl rfl ?_
  refine ro_iload_n (pc' := 1020) dL_law_1019 rfl rfl rfl ?_
  refine ro_iconst (pc' := 1021) dL_law_1020 ic_1 rfl ?_
  refine ro_iadd (pc' := 1022) dL_law_1021 rfl ?_
  obtain ⟨v1, hv1, h⟩ := ah_bs h
  refine ro_sld (pc' := 1023) hsc dL_law_1022 rfl hv1 ?_
  obtain ⟨u2, hu2, h⟩ := ah_bs h
  obtain ⟨v3, σ4, hv3, h⟩ := ah_bs2 h
  refine ro_callV (pc' := 1026) (As := [.int v1]) (rest := []) (st' := [.int v3]) (by decide) hu2 q848 sl_X0_led (M_X0_led hv3) q847 q850 q95 dd_X0_led rfl ⟨Nat.le_of_ble_eq_true rfl, Nat.le_of_ble_eq_true rfl⟩ (Nat.le_of_ble_eq_true rfl) dL_law_1023 rfl rfl rfl ?_
  refine ro_aload_n (pc' := 1027) dL_law_1026 rfl rfl rfl ?_
  refine ro_aload_n (pc' := 1028) dL_law_1027 rfl rfl rfl ?_
  refine ro_iload_n (pc' := 1029) dL_law_1028 rfl rfl rfl ?_
  refine ro_iconst (pc' := 1030) dL_law_1029 ic_1 rfl ?_
  refine ro_iadd (pc' := 1031) dL_law_1030 rfl ?_
  obtain ⟨v5, hv5, h⟩ := ah_bs h
  refine ro_sld (pc' := 1032) hsc dL_law_1031 rfl hv5 ?_
  obtain ⟨u6, hu6, h⟩ := ah_bs h
  obtain ⟨v7, σ8, hv7, h⟩ := ah_bs2 h
  refine ro_callV (pc' := 1035) (As := [.int v5]) (rest := [.int v3]) (st' := [.int v7, .int v3]) (by decide) hu6 q1791 sl_X6_led (M_X6_led hv7) q1790 q1793 q104 dd_X6_led rfl ⟨Nat.le_of_ble_eq_true rfl, Nat.le_of_ble_eq_true rfl⟩ (Nat.le_of_ble_eq_true rfl) dL_law_1032 rfl rfl rfl ?_
  refine ro_icmp_eq (pc' := 1038) (tgt := 1483) dL_law_1035 rfl rfl (fun c => ?_) (fun c => ?_)
  · replace h := ah_ip c h
    exact hk1483 _ _ _ _ h
  · replace h := ah_in_ c h
    refine ro_iconst (pc' := 1039) dL_law_1038 ic_0 rfl ?_
    obtain rfl := Option.some.inj h
    exact ro_zret rfl hκ dL_law_1039
set_option maxRecDepth 20000 in
set_option maxHeartbeats 4000000 in
theorem W_L_law_1040 {κ : ah_C} {rr : (Int32 × ah_S)} (hκ : ah_res κ = (.returned (some (.int rr.1)), rr.2)) (hso : ah_kso κ) {sb sL : Nat} {sx : Nat → Int32} (hsc : ah_scr κ sb sL sx) {k1483 : ah_S → Option Nat → Option Nat → Int32 → Option (Int32 × ah_S)} (hk1483 : ∀ (σ : ah_S) (r1 : Option Nat) (r2 : Option Nat) (x3 : Int32), k1483 σ r1 r2 x3 = some rr → ah_G κ ("LeftAsFoundLaw", "law", 4, (some FieldType.boolean), [], 2048, 84000) cL_law σ 1483 [some (va_rf (some sb)), some (va_rf r1), some (va_rf r2), some (.int x3)] []) : ∀ (σ : ah_S) (r1 : Option Nat) (r2 : Option Nat) (x3 : Int32), F_L_law_1040 sL sx k1483 σ r1 r2 x3 = some rr → ah_G κ ("LeftAsFoundLaw", "law", 4, (some FieldType.boolean), [], 2048, 84000) cL_law σ 1040 [some (va_rf (some sb)), some (va_rf r1), some (va_rf r2), some (.int x3)] [] := by
  intro σ r1 r2 x3 h
  unfold F_L_law_1040 at h
  refine ro_aload_n (pc' := 1041) dL_law_1040 rfl rfl rfl ?_
  obtain ⟨u1, hu1, h⟩ := ah_bs h
  obtain ⟨v2, σ3, hv2, h⟩ := ah_bs2 h
  refine ro_callV (pc' := 1044) (As := []) (rest := []) (st' := [.int v2]) (by decide) hu1 q852 sl_X0_image (M_X0_image hv2) q851 q854 q95 dd_X0_image rfl ⟨Nat.le_of_ble_eq_true rfl, Nat.le_of_ble_eq_true rfl⟩ (Nat.le_of_ble_eq_true rfl) dL_law_1041 rfl rfl rfl ?_
  refine ro_aload_n (pc' := 1045) dL_law_1044 rfl rfl rfl ?_
  obtain ⟨u4, hu4, h⟩ := ah_bs h
  obtain ⟨v5, σ6, hv5, h⟩ := ah_bs2 h
  refine ro_callV (pc' := 1048) (As := []) (rest := [.int v2]) (st' := [.int v5, .int v2]) (by decide) hu4 q1795 sl_X6_image (M_X6_image hv5) q1794 q1797 q104 dd_X6_image rfl ⟨Nat.le_of_ble_eq_true rfl, Nat.le_of_ble_eq_true rfl⟩ (Nat.le_of_ble_eq_true rfl) dL_law_1045 rfl rfl rfl ?_
  refine ro_icmp_eq (pc' := 1051) (tgt := 1483) dL_law_1048 rfl rfl (fun c => ?_) (fun c => ?_)
  · replace h := ah_ip c h
    exact hk1483 _ _ _ _ h
  · replace h := ah_in_ c h
    refine ro_iconst (pc' := 1052) dL_law_1051 ic_0 rfl ?_
    obtain rfl := Option.some.inj h
    exact ro_zret rfl hκ dL_law_1052
set_option maxRecDepth 20000 in
set_option maxHeartbeats 4000000 in
theorem W_L_law_1053 {κ : ah_C} {rr : (Int32 × ah_S)} (hκ : ah_res κ = (.returned (some (.int rr.1)), rr.2)) (hso : ah_kso κ) {sb sL : Nat} {sx : Nat → Int32} (hsc : ah_scr κ sb sL sx) {k1483 : ah_S → Option Nat → Option Nat → Int32 → Option (Int32 × ah_S)} (hk1483 : ∀ (σ : ah_S) (r1 : Option Nat) (r2 : Option Nat) (x3 : Int32), k1483 σ r1 r2 x3 = some rr → ah_G κ ("LeftAsFoundLaw", "law", 4, (some FieldType.boolean), [], 2048, 84000) cL_law σ 1483 [some (va_rf (some sb)), some (va_rf r1), some (va_rf r2), some (.int x3)] []) : ∀ (σ : ah_S) (r1 : Option Nat) (r2 : Option Nat) (x3 : Int32), F_L_law_1053 sL sx k1483 σ r1 r2 x3 = some rr → ah_G κ ("LeftAsFoundLaw", "law", 4, (some FieldType.boolean), [], 2048, 84000) cL_law σ 1053 [some (va_rf (some sb)), some (va_rf r1), some (va_rf r2), some (.int x3)] [] := by
  intro σ r1 r2 x3 h
  unfold F_L_law_1053 at h
  refine ro_aload_n (pc' := 1054) dL_law_1053 rfl rfl rfl ?_
  obtain ⟨u1, hu1, h⟩ := ah_bs h
  obtain ⟨v2, σ3, hv2, h⟩ := ah_bs2 h
  refine ro_callV (pc' := 1057) (As := []) (rest := []) (st' := [.int v2]) (by decide) hu1 q856 sl_X0_back (M_X0_back hv2) q855 q858 q95 dd_X0_back rfl ⟨Nat.le_of_ble_eq_true rfl, Nat.le_of_ble_eq_true rfl⟩ (Nat.le_of_ble_eq_true rfl) dL_law_1054 rfl rfl rfl ?_
  refine ro_aload_n (pc' := 1058) dL_law_1057 rfl rfl rfl ?_
  obtain ⟨u4, hu4, h⟩ := ah_bs h
  obtain ⟨v5, σ6, hv5, h⟩ := ah_bs2 h
  refine ro_callV (pc' := 1061) (As := []) (rest := [.int v2]) (st' := [.int v5, .int v2]) (by decide) hu4 q1799 sl_X6_back (M_X6_back hv5) q1798 q1801 q104 dd_X6_back rfl ⟨Nat.le_of_ble_eq_true rfl, Nat.le_of_ble_eq_true rfl⟩ (Nat.le_of_ble_eq_true rfl) dL_law_1058 rfl rfl rfl ?_
  refine ro_icmp_eq (pc' := 1064) (tgt := 1483) dL_law_1061 rfl rfl (fun c => ?_) (fun c => ?_)
  · replace h := ah_ip c h
    exact hk1483 _ _ _ _ h
  · replace h := ah_in_ c h
    refine ro_iconst (pc' := 1065) dL_law_1064 ic_0 rfl ?_
    obtain rfl := Option.some.inj h
    exact ro_zret rfl hκ dL_law_1065
set_option maxRecDepth 20000 in
set_option maxHeartbeats 4000000 in
theorem W_L_law_1066 {κ : ah_C} {rr : (Int32 × ah_S)} (hκ : ah_res κ = (.returned (some (.int rr.1)), rr.2)) (hso : ah_kso κ) {sb sL : Nat} {sx : Nat → Int32} (hsc : ah_scr κ sb sL sx) {k1483 : ah_S → Option Nat → Option Nat → Int32 → Option (Int32 × ah_S)} (hk1483 : ∀ (σ : ah_S) (r1 : Option Nat) (r2 : Option Nat) (x3 : Int32), k1483 σ r1 r2 x3 = some rr → ah_G κ ("LeftAsFoundLaw", "law", 4, (some FieldType.boolean), [], 2048, 84000) cL_law σ 1483 [some (va_rf (some sb)), some (va_rf r1), some (va_rf r2), some (.int x3)] []) : ∀ (σ : ah_S) (r1 : Option Nat) (r2 : Option Nat) (x3 : Int32), F_L_law_1066 sL sx k1483 σ r1 r2 x3 = some rr → ah_G κ ("LeftAsFoundLaw", "law", 4, (some FieldType.boolean), [], 2048, 84000) cL_law σ 1066 [some (va_rf (some sb)), some (va_rf r1), some (va_rf r2), some (.int x3)] [] := by
  intro σ r1 r2 x3 h
  unfold F_L_law_1066 at h
  refine ro_aload_n (pc' := 1067) dL_law_1066 rfl rfl rfl ?_
  obtain ⟨u1, hu1, h⟩ := ah_bs h
  obtain ⟨v2, σ3, hv2, h⟩ := ah_bs2 h
  refine ro_callV (pc' := 1070) (As := []) (rest := []) (st' := [.int v2]) (by decide) hu1 q123 sl_X0_undo (M_X0_undo hv2) q122 q125 q95 dd_X0_undo rfl ⟨Nat.le_of_ble_eq_true rfl, Nat.le_of_ble_eq_true rfl⟩ (Nat.le_of_ble_eq_true rfl) dL_law_1067 rfl rfl rfl ?_
  refine ro_aload_n (pc' := 1071) dL_law_1070 rfl rfl rfl ?_
  obtain ⟨u4, hu4, h⟩ := ah_bs h
  obtain ⟨v5, σ6, hv5, h⟩ := ah_bs2 h
  refine ro_callV (pc' := 1074) (As := []) (rest := [.int v2]) (st' := [.int v5, .int v2]) (by decide) hu4 q1509 sl_X6_undo (M_X6_undo hv5) q1508 q1511 q104 dd_X6_undo rfl ⟨Nat.le_of_ble_eq_true rfl, Nat.le_of_ble_eq_true rfl⟩ (Nat.le_of_ble_eq_true rfl) dL_law_1071 rfl rfl rfl ?_
  refine ro_icmp_eq (pc' := 1077) (tgt := 1483) dL_law_1074 rfl rfl (fun c => ?_) (fun c => ?_)
  · replace h := ah_ip c h
    exact hk1483 _ _ _ _ h
  · replace h := ah_in_ c h
    refine ro_iconst (pc' := 1078) dL_law_1077 ic_0 rfl ?_
    obtain rfl := Option.some.inj h
    exact ro_zret rfl hκ dL_law_1078
set_option maxRecDepth 20000 in
set_option maxHeartbeats 4000000 in
theorem W_L_law_1079 {κ : ah_C} {rr : (Int32 × ah_S)} (hκ : ah_res κ = (.returned (some (.int rr.1)), rr.2)) (hso : ah_kso κ) {sb sL : Nat} {sx : Nat → Int32} (hsc : ah_scr κ sb sL sx) {k1483 : ah_S → Option Nat → Option Nat → Int32 → Option (Int32 × ah_S)} (hk1483 : ∀ (σ : ah_S) (r1 : Option Nat) (r2 : Option Nat) (x3 : Int32), k1483 σ r1 r2 x3 = some rr → ah_G κ ("LeftAsFoundLaw", "law", 4, (some FieldType.boolean), [], 2048, 84000) cL_law σ 1483 [some (va_rf (some sb)), some (va_rf r1), some (va_rf r2), some (.int x3)] []) : ∀ (σ : ah_S) (r1 : Option Nat) (r2 : Option Nat) (x3 : Int32), F_L_law_1079 sL sx k1483 σ r1 r2 x3 = some rr → ah_G κ ("LeftAsFoundLaw", "law", 4, (some FieldType.boolean), [], 2048, 84000) cL_law σ 1079 [some (va_rf (some sb)), some (va_rf r1), some (va_rf r2), some (.int x3)] [] := by
  intro σ r1 r2 x3 h
  unfold F_L_law_1079 at h
  refine ro_aload_n (pc' := 1080) dL_law_1079 rfl rfl rfl ?_
  obtain ⟨u1, hu1, h⟩ := ah_bs h
  obtain ⟨v2, σ3, hv2, h⟩ := ah_bs2 h
  refine ro_callV (pc' := 1083) (As := []) (rest := []) (st' := [.int v2]) (by decide) hu1 q127 sl_X0_redo (M_X0_redo hv2) q126 q129 q95 dd_X0_redo rfl ⟨Nat.le_of_ble_eq_true rfl, Nat.le_of_ble_eq_true rfl⟩ (Nat.le_of_ble_eq_true rfl) dL_law_1080 rfl rfl rfl ?_
  refine ro_aload_n (pc' := 1084) dL_law_1083 rfl rfl rfl ?_
  obtain ⟨u4, hu4, h⟩ := ah_bs h
  obtain ⟨v5, σ6, hv5, h⟩ := ah_bs2 h
  refine ro_callV (pc' := 1087) (As := []) (rest := [.int v2]) (st' := [.int v5, .int v2]) (by decide) hu4 q1520 sl_X6_redo (M_X6_redo hv5) q1519 q1522 q104 dd_X6_redo rfl ⟨Nat.le_of_ble_eq_true rfl, Nat.le_of_ble_eq_true rfl⟩ (Nat.le_of_ble_eq_true rfl) dL_law_1084 rfl rfl rfl ?_
  refine ro_icmp_eq (pc' := 1090) (tgt := 1483) dL_law_1087 rfl rfl (fun c => ?_) (fun c => ?_)
  · replace h := ah_ip c h
    exact hk1483 _ _ _ _ h
  · replace h := ah_in_ c h
    refine ro_iconst (pc' := 1091) dL_law_1090 ic_0 rfl ?_
    obtain rfl := Option.some.inj h
    exact ro_zret rfl hκ dL_law_1091
set_option maxRecDepth 20000 in
set_option maxHeartbeats 4000000 in
theorem W_L_law_1092 {κ : ah_C} {rr : (Int32 × ah_S)} (hκ : ah_res κ = (.returned (some (.int rr.1)), rr.2)) (hso : ah_kso κ) {sb sL : Nat} {sx : Nat → Int32} (hsc : ah_scr κ sb sL sx) {k1483 : ah_S → Option Nat → Option Nat → Int32 → Option (Int32 × ah_S)} (hk1483 : ∀ (σ : ah_S) (r1 : Option Nat) (r2 : Option Nat) (x3 : Int32), k1483 σ r1 r2 x3 = some rr → ah_G κ ("LeftAsFoundLaw", "law", 4, (some FieldType.boolean), [], 2048, 84000) cL_law σ 1483 [some (va_rf (some sb)), some (va_rf r1), some (va_rf r2), some (.int x3)] []) : ∀ (σ : ah_S) (r1 : Option Nat) (r2 : Option Nat) (x3 : Int32), F_L_law_1092 sL sx k1483 σ r1 r2 x3 = some rr → ah_G κ ("LeftAsFoundLaw", "law", 4, (some FieldType.boolean), [], 2048, 84000) cL_law σ 1092 [some (va_rf (some sb)), some (va_rf r1), some (va_rf r2), some (.int x3)] [] := by
  intro σ r1 r2 x3 h
  unfold F_L_law_1092 at h
  refine ro_aload_n (pc' := 1093) dL_law_1092 rfl rfl rfl ?_
  refine ro_aload_n (pc' := 1094) dL_law_1093 rfl rfl rfl ?_
  refine ro_iload_n (pc' := 1095) dL_law_1094 rfl rfl rfl ?_
  refine ro_iconst (pc' := 1096) dL_law_1095 ic_1 rfl ?_
  refine ro_iadd (pc' := 1097) dL_law_1096 rfl ?_
  obtain ⟨v1, hv1, h⟩ := ah_bs h
  refine ro_sld (pc' := 1098) hsc dL_law_1097 rfl hv1 ?_
  obtain ⟨u2, hu2, h⟩ := ah_bs h
  obtain ⟨v3, σ4, hv3, h⟩ := ah_bs2 h
  refine ro_callV (pc' := 1101) (As := [.int v1]) (rest := []) (st' := [.int v3]) (by decide) hu2 q860 sl_X0_body (M_X0_body hv3) q859 q862 q95 dd_X0_body rfl ⟨Nat.le_of_ble_eq_true rfl, Nat.le_of_ble_eq_true rfl⟩ (Nat.le_of_ble_eq_true rfl) dL_law_1098 rfl rfl rfl ?_
  refine ro_aload_n (pc' := 1102) dL_law_1101 rfl rfl rfl ?_
  refine ro_aload_n (pc' := 1103) dL_law_1102 rfl rfl rfl ?_
  refine ro_iload_n (pc' := 1104) dL_law_1103 rfl rfl rfl ?_
  refine ro_iconst (pc' := 1105) dL_law_1104 ic_1 rfl ?_
  refine ro_iadd (pc' := 1106) dL_law_1105 rfl ?_
  obtain ⟨v5, hv5, h⟩ := ah_bs h
  refine ro_sld (pc' := 1107) hsc dL_law_1106 rfl hv5 ?_
  obtain ⟨u6, hu6, h⟩ := ah_bs h
  obtain ⟨v7, σ8, hv7, h⟩ := ah_bs2 h
  refine ro_callV (pc' := 1110) (As := [.int v5]) (rest := [.int v3]) (st' := [.int v7, .int v3]) (by decide) hu6 q1807 sl_X6_body (M_X6_body hv7) q1806 q1809 q104 dd_X6_body rfl ⟨Nat.le_of_ble_eq_true rfl, Nat.le_of_ble_eq_true rfl⟩ (Nat.le_of_ble_eq_true rfl) dL_law_1107 rfl rfl rfl ?_
  refine ro_icmp_eq (pc' := 1113) (tgt := 1483) dL_law_1110 rfl rfl (fun c => ?_) (fun c => ?_)
  · replace h := ah_ip c h
    exact hk1483 _ _ _ _ h
  · replace h := ah_in_ c h
    refine ro_iconst (pc' := 1114) dL_law_1113 ic_0 rfl ?_
    obtain rfl := Option.some.inj h
    exact ro_zret rfl hκ dL_law_1114
set_option maxRecDepth 20000 in
set_option maxHeartbeats 4000000 in
theorem W_L_law_1115 {κ : ah_C} {rr : (Int32 × ah_S)} (hκ : ah_res κ = (.returned (some (.int rr.1)), rr.2)) (hso : ah_kso κ) {sb sL : Nat} {sx : Nat → Int32} (hsc : ah_scr κ sb sL sx) {k1483 : ah_S → Option Nat → Option Nat → Int32 → Option (Int32 × ah_S)} (hk1483 : ∀ (σ : ah_S) (r1 : Option Nat) (r2 : Option Nat) (x3 : Int32), k1483 σ r1 r2 x3 = some rr → ah_G κ ("LeftAsFoundLaw", "law", 4, (some FieldType.boolean), [], 2048, 84000) cL_law σ 1483 [some (va_rf (some sb)), some (va_rf r1), some (va_rf r2), some (.int x3)] []) : ∀ (σ : ah_S) (r1 : Option Nat) (r2 : Option Nat) (x3 : Int32), F_L_law_1115 sL sx k1483 σ r1 r2 x3 = some rr → ah_G κ ("LeftAsFoundLaw", "law", 4, (some FieldType.boolean), [], 2048, 84000) cL_law σ 1115 [some (va_rf (some sb)), some (va_rf r1), some (va_rf r2), some (.int x3)] [] := by
  intro σ r1 r2 x3 h
  unfold F_L_law_1115 at h
  refine ro_aload_n (pc' := 1116) dL_law_1115 rfl rfl rfl ?_
  refine ro_aload_n (pc' := 1117) dL_law_1116 rfl rfl rfl ?_
  refine ro_iload_n (pc' := 1118) dL_law_1117 rfl rfl rfl ?_
  refine ro_iconst (pc' := 1119) dL_law_1118 ic_1 rfl ?_
  refine ro_iadd (pc' := 1120) dL_law_1119 rfl ?_
  obtain ⟨v1, hv1, h⟩ := ah_bs h
  refine ro_sld (pc' := 1121) hsc dL_law_1120 rfl hv1 ?_
  refine ro_aload_n (pc' := 1122) dL_law_1121 rfl rfl rfl ?_
  refine ro_iload_n (pc' := 1123) dL_law_1122 rfl rfl rfl ?_
  refine ro_iconst (pc' := 1124) dL_law_1123 ic_2 rfl ?_
  refine ro_iadd (pc' := 1125) dL_law_1124 rfl ?_
  obtain ⟨v2, hv2, h⟩ := ah_bs h
  refine ro_sld (pc' := 1126) hsc dL_law_1125 rfl hv2 ?_
  refine ro_aload_n (pc' := 1127) dL_law_1126 rfl rfl rfl ?_
  refine ro_iload_n (pc' := 1128) dL_law_1127 rfl rfl rfl ?_
  refine ro_iconst (pc' := 1129) dL_law_1128 ic_3 rfl ?_
  refine ro_iadd (pc' := 1130) dL_law_1129 rfl ?_
  obtain ⟨v3, hv3, h⟩ := ah_bs h
  refine ro_sld (pc' := 1131) hsc dL_law_1130 rfl hv3 ?_
  obtain ⟨u4, hu4, h⟩ := ah_bs h
  obtain ⟨v5, σ6, hv5, h⟩ := ah_bs2 h
  refine ro_callV (pc' := 1134) (As := [.int v1, .int v2, .int v3]) (rest := []) (st' := [.int v5]) (by decide) hu4 q969 sl_X0_act (M_X0_act hv5) q968 q971 q95 dd_X0_act rfl ⟨Nat.le_of_ble_eq_true rfl, Nat.le_of_ble_eq_true rfl⟩ (Nat.le_of_ble_eq_true rfl) dL_law_1131 rfl rfl rfl ?_
  refine ro_aload_n (pc' := 1135) dL_law_1134 rfl rfl rfl ?_
  refine ro_aload_n (pc' := 1136) dL_law_1135 rfl rfl rfl ?_
  refine ro_iload_n (pc' := 1137) dL_law_1136 rfl rfl rfl ?_
  refine ro_iconst (pc' := 1138) dL_law_1137 ic_1 rfl ?_
  refine ro_iadd (pc' := 1139) dL_law_1138 rfl ?_
  obtain ⟨v7, hv7, h⟩ := ah_bs h
  refine ro_sld (pc' := 1140) hsc dL_law_1139 rfl hv7 ?_
  refine ro_aload_n (pc' := 1141) dL_law_1140 rfl rfl rfl ?_
  refine ro_iload_n (pc' := 1142) dL_law_1141 rfl rfl rfl ?_
  refine ro_iconst (pc' := 1143) dL_law_1142 ic_2 rfl ?_
  refine ro_iadd (pc' := 1144) dL_law_1143 rfl ?_
  obtain ⟨v8, hv8, h⟩ := ah_bs h
  refine ro_sld (pc' := 1145) hsc dL_law_1144 rfl hv8 ?_
  refine ro_aload_n (pc' := 1146) dL_law_1145 rfl rfl rfl ?_
  refine ro_iload_n (pc' := 1147) dL_law_1146 rfl rfl rfl ?_
  refine ro_iconst (pc' := 1148) dL_law_1147 ic_3 rfl ?_
  refine ro_iadd (pc' := 1149) dL_law_1148 rfl ?_
  obtain ⟨v9, hv9, h⟩ := ah_bs h
  refine ro_sld (pc' := 1150) hsc dL_law_1149 rfl hv9 ?_
  obtain ⟨u10, hu10, h⟩ := ah_bs h
  obtain ⟨v11, σ12, hv11, h⟩ := ah_bs2 h
  refine ro_callV (pc' := 1153) (As := [.int v7, .int v8, .int v9]) (rest := [.int v5]) (st' := [.int v11, .int v5]) (by decide) hu10 q1811 sl_X6_act (M_X6_act hv11) q1810 q1813 q104 dd_X6_act rfl ⟨Nat.le_of_ble_eq_true rfl, Nat.le_of_ble_eq_true rfl⟩ (Nat.le_of_ble_eq_true rfl) dL_law_1150 rfl rfl rfl ?_
  refine ro_icmp_eq (pc' := 1156) (tgt := 1483) dL_law_1153 rfl rfl (fun c => ?_) (fun c => ?_)
  · replace h := ah_ip c h
    exact hk1483 _ _ _ _ h
  · replace h := ah_in_ c h
    refine ro_iconst (pc' := 1157) dL_law_1156 ic_0 rfl ?_
    obtain rfl := Option.some.inj h
    exact ro_zret rfl hκ dL_law_1157
set_option maxRecDepth 20000 in
set_option maxHeartbeats 4000000 in
theorem W_L_law_1158 {κ : ah_C} {rr : (Int32 × ah_S)} (hκ : ah_res κ = (.returned (some (.int rr.1)), rr.2)) (hso : ah_kso κ) {sb sL : Nat} {sx : Nat → Int32} (hsc : ah_scr κ sb sL sx) {k1483 : ah_S → Option Nat → Option Nat → Int32 → Option (Int32 × ah_S)} (hk1483 : ∀ (σ : ah_S) (r1 : Option Nat) (r2 : Option Nat) (x3 : Int32), k1483 σ r1 r2 x3 = some rr → ah_G κ ("LeftAsFoundLaw", "law", 4, (some FieldType.boolean), [], 2048, 84000) cL_law σ 1483 [some (va_rf (some sb)), some (va_rf r1), some (va_rf r2), some (.int x3)] []) : ∀ (σ : ah_S) (r1 : Option Nat) (r2 : Option Nat) (x3 : Int32), F_L_law_1158 sL sx k1483 σ r1 r2 x3 = some rr → ah_G κ ("LeftAsFoundLaw", "law", 4, (some FieldType.boolean), [], 2048, 84000) cL_law σ 1158 [some (va_rf (some sb)), some (va_rf r1), some (va_rf r2), some (.int x3)] [] := by
  intro σ r1 r2 x3 h
  unfold F_L_law_1158 at h
  refine ro_aload_n (pc' := 1159) dL_law_1158 rfl rfl rfl ?_
  refine ro_aload_n (pc' := 1160) dL_law_1159 rfl rfl rfl ?_
  refine ro_iload_n (pc' := 1161) dL_law_1160 rfl rfl rfl ?_
  refine ro_iconst (pc' := 1162) dL_law_1161 ic_1 rfl ?_
  refine ro_iadd (pc' := 1163) dL_law_1162 rfl ?_
  obtain ⟨v1, hv1, h⟩ := ah_bs h
  refine ro_sld (pc' := 1164) hsc dL_law_1163 rfl hv1 ?_
  obtain ⟨u2, hu2, h⟩ := ah_bs h
  obtain ⟨v3, σ4, hv3, h⟩ := ah_bs2 h
  refine ro_callV (pc' := 1167) (As := [.int v1]) (rest := []) (st' := [.int v3]) (by decide) hu2 q1198 sl_X0_trace (M_X0_trace hv3) q1197 q1200 q95 dd_X0_trace rfl ⟨Nat.le_of_ble_eq_true rfl, Nat.le_of_ble_eq_true rfl⟩ (Nat.le_of_ble_eq_true rfl) dL_law_1164 rfl rfl rfl ?_
  refine ro_aload_n (pc' := 1168) dL_law_1167 rfl rfl rfl ?_
  refine ro_aload_n (pc' := 1169) dL_law_1168 rfl rfl rfl ?_
  refine ro_iload_n (pc' := 1170) dL_law_1169 rfl rfl rfl ?_
  refine ro_iconst (pc' := 1171) dL_law_1170 ic_1 rfl ?_
  refine ro_iadd (pc' := 1172) dL_law_1171 rfl ?_
  obtain ⟨v5, hv5, h⟩ := ah_bs h
  refine ro_sld (pc' := 1173) hsc dL_law_1172 rfl hv5 ?_
  obtain ⟨u6, hu6, h⟩ := ah_bs h
  obtain ⟨v7, σ8, hv7, h⟩ := ah_bs2 h
  refine ro_callV (pc' := 1176) (As := [.int v5]) (rest := [.int v3]) (st' := [.int v7, .int v3]) (by decide) hu6 q1803 sl_X6_trace (M_X6_trace hv7) q1802 q1805 q104 dd_X6_trace rfl ⟨Nat.le_of_ble_eq_true rfl, Nat.le_of_ble_eq_true rfl⟩ (Nat.le_of_ble_eq_true rfl) dL_law_1173 rfl rfl rfl ?_
  refine ro_icmp_eq (pc' := 1179) (tgt := 1483) dL_law_1176 rfl rfl (fun c => ?_) (fun c => ?_)
  · replace h := ah_ip c h
    exact hk1483 _ _ _ _ h
  · replace h := ah_in_ c h
    refine ro_iconst (pc' := 1180) dL_law_1179 ic_0 rfl ?_
    obtain rfl := Option.some.inj h
    exact ro_zret rfl hκ dL_law_1180
set_option maxRecDepth 20000 in
set_option maxHeartbeats 4000000 in
theorem W_L_law_1181 {κ : ah_C} {rr : (Int32 × ah_S)} (hκ : ah_res κ = (.returned (some (.int rr.1)), rr.2)) (hso : ah_kso κ) {sb sL : Nat} {sx : Nat → Int32} (hsc : ah_scr κ sb sL sx) {k1483 : ah_S → Option Nat → Option Nat → Int32 → Option (Int32 × ah_S)} (hk1483 : ∀ (σ : ah_S) (r1 : Option Nat) (r2 : Option Nat) (x3 : Int32), k1483 σ r1 r2 x3 = some rr → ah_G κ ("LeftAsFoundLaw", "law", 4, (some FieldType.boolean), [], 2048, 84000) cL_law σ 1483 [some (va_rf (some sb)), some (va_rf r1), some (va_rf r2), some (.int x3)] []) : ∀ (σ : ah_S) (r1 : Option Nat) (r2 : Option Nat) (x3 : Int32), F_L_law_1181 sL sx k1483 σ r1 r2 x3 = some rr → ah_G κ ("LeftAsFoundLaw", "law", 4, (some FieldType.boolean), [], 2048, 84000) cL_law σ 1181 [some (va_rf (some sb)), some (va_rf r1), some (va_rf r2), some (.int x3)] [] := by
  intro σ r1 r2 x3 h
  unfold F_L_law_1181 at h
  refine ro_aload_n (pc' := 1182) dL_law_1181 rfl rfl rfl ?_
  refine ro_aload_n (pc' := 1183) dL_law_1182 rfl rfl rfl ?_
  refine ro_iload_n (pc' := 1184) dL_law_1183 rfl rfl rfl ?_
  refine ro_iconst (pc' := 1185) dL_law_1184 ic_1 rfl ?_
  refine ro_iadd (pc' := 1186) dL_law_1185 rfl ?_
  obtain ⟨v1, hv1, h⟩ := ah_bs h
  refine ro_sld (pc' := 1187) hsc dL_law_1186 rfl hv1 ?_
  refine ro_aload_n (pc' := 1188) dL_law_1187 rfl rfl rfl ?_
  refine ro_iload_n (pc' := 1189) dL_law_1188 rfl rfl rfl ?_
  refine ro_iconst (pc' := 1190) dL_law_1189 ic_2 rfl ?_
  refine ro_iadd (pc' := 1191) dL_law_1190 rfl ?_
  obtain ⟨v2, hv2, h⟩ := ah_bs h
  refine ro_sld (pc' := 1192) hsc dL_law_1191 rfl hv2 ?_
  obtain ⟨u3, hu3, h⟩ := ah_bs h
  obtain ⟨v4, σ5, hv4, h⟩ := ah_bs2 h
  refine ro_callV (pc' := 1195) (As := [.int v1, .int v2]) (rest := []) (st' := [.int v4]) (by decide) hu3 q1202 sl_X0_keep (M_X0_keep hv4) q1201 q1204 q95 dd_X0_keep rfl ⟨Nat.le_of_ble_eq_true rfl, Nat.le_of_ble_eq_true rfl⟩ (Nat.le_of_ble_eq_true rfl) dL_law_1192 rfl rfl rfl ?_
  refine ro_aload_n (pc' := 1196) dL_law_1195 rfl rfl rfl ?_
  refine ro_aload_n (pc' := 1197) dL_law_1196 rfl rfl rfl ?_
  refine ro_iload_n (pc' := 1198) dL_law_1197 rfl rfl rfl ?_
  refine ro_iconst (pc' := 1199) dL_law_1198 ic_1 rfl ?_
  refine ro_iadd (pc' := 1200) dL_law_1199 rfl ?_
  obtain ⟨v6, hv6, h⟩ := ah_bs h
  refine ro_sld (pc' := 1201) hsc dL_law_1200 rfl hv6 ?_
  refine ro_aload_n (pc' := 1202) dL_law_1201 rfl rfl rfl ?_
  refine ro_iload_n (pc' := 1203) dL_law_1202 rfl rfl rfl ?_
  refine ro_iconst (pc' := 1204) dL_law_1203 ic_2 rfl ?_
  refine ro_iadd (pc' := 1205) dL_law_1204 rfl ?_
  obtain ⟨v7, hv7, h⟩ := ah_bs h
  refine ro_sld (pc' := 1206) hsc dL_law_1205 rfl hv7 ?_
  obtain ⟨u8, hu8, h⟩ := ah_bs h
  obtain ⟨v9, σ10, hv9, h⟩ := ah_bs2 h
  refine ro_callV (pc' := 1209) (As := [.int v6, .int v7]) (rest := [.int v4]) (st' := [.int v9, .int v4]) (by decide) hu8 q1878 sl_X6_keep (M_X6_keep hv9) q1877 q1880 q104 dd_X6_keep rfl ⟨Nat.le_of_ble_eq_true rfl, Nat.le_of_ble_eq_true rfl⟩ (Nat.le_of_ble_eq_true rfl) dL_law_1206 rfl rfl rfl ?_
  refine ro_icmp_eq (pc' := 1212) (tgt := 1483) dL_law_1209 rfl rfl (fun c => ?_) (fun c => ?_)
  · replace h := ah_ip c h
    exact hk1483 _ _ _ _ h
  · replace h := ah_in_ c h
    refine ro_iconst (pc' := 1213) dL_law_1212 ic_0 rfl ?_
    obtain rfl := Option.some.inj h
    exact ro_zret rfl hκ dL_law_1213
set_option maxRecDepth 20000 in
set_option maxHeartbeats 4000000 in
theorem W_L_law_1214 {κ : ah_C} {rr : (Int32 × ah_S)} (hκ : ah_res κ = (.returned (some (.int rr.1)), rr.2)) (hso : ah_kso κ) {sb sL : Nat} {sx : Nat → Int32} (hsc : ah_scr κ sb sL sx) {k1483 : ah_S → Option Nat → Option Nat → Int32 → Option (Int32 × ah_S)} (hk1483 : ∀ (σ : ah_S) (r1 : Option Nat) (r2 : Option Nat) (x3 : Int32), k1483 σ r1 r2 x3 = some rr → ah_G κ ("LeftAsFoundLaw", "law", 4, (some FieldType.boolean), [], 2048, 84000) cL_law σ 1483 [some (va_rf (some sb)), some (va_rf r1), some (va_rf r2), some (.int x3)] []) : ∀ (σ : ah_S) (r1 : Option Nat) (r2 : Option Nat) (x3 : Int32), F_L_law_1214 sL sx k1483 σ r1 r2 x3 = some rr → ah_G κ ("LeftAsFoundLaw", "law", 4, (some FieldType.boolean), [], 2048, 84000) cL_law σ 1214 [some (va_rf (some sb)), some (va_rf r1), some (va_rf r2), some (.int x3)] [] := by
  intro σ r1 r2 x3 h
  unfold F_L_law_1214 at h
  refine ro_aload_n (pc' := 1215) dL_law_1214 rfl rfl rfl ?_
  refine ro_aload_n (pc' := 1216) dL_law_1215 rfl rfl rfl ?_
  refine ro_iload_n (pc' := 1217) dL_law_1216 rfl rfl rfl ?_
  refine ro_iconst (pc' := 1218) dL_law_1217 ic_1 rfl ?_
  refine ro_iadd (pc' := 1219) dL_law_1218 rfl ?_
  obtain ⟨v1, hv1, h⟩ := ah_bs h
  refine ro_sld (pc' := 1220) hsc dL_law_1219 rfl hv1 ?_
  refine ro_aload_n (pc' := 1221) dL_law_1220 rfl rfl rfl ?_
  refine ro_iload_n (pc' := 1222) dL_law_1221 rfl rfl rfl ?_
  refine ro_iconst (pc' := 1223) dL_law_1222 ic_2 rfl ?_
  refine ro_iadd (pc' := 1224) dL_law_1223 rfl ?_
  obtain ⟨v2, hv2, h⟩ := ah_bs h
  refine ro_sld (pc' := 1225) hsc dL_law_1224 rfl hv2 ?_
  refine ro_aload_n (pc' := 1226) dL_law_1225 rfl rfl rfl ?_
  refine ro_iload_n (pc' := 1227) dL_law_1226 rfl rfl rfl ?_
  refine ro_iconst (pc' := 1228) dL_law_1227 ic_3 rfl ?_
  refine ro_iadd (pc' := 1229) dL_law_1228 rfl ?_
  obtain ⟨v3, hv3, h⟩ := ah_bs h
  refine ro_sld (pc' := 1230) hsc dL_law_1229 rfl hv3 ?_
  obtain ⟨u4, hu4, h⟩ := ah_bs h
  obtain ⟨v5, σ6, hv5, h⟩ := ah_bs2 h
  refine ro_callV (pc' := 1233) (As := [.int v1, .int v2, .int v3]) (rest := []) (st' := [.int v5]) (by decide) hu4 q1206 sl_X0_row (M_X0_row hv5) q1205 q1208 q95 dd_X0_row rfl ⟨Nat.le_of_ble_eq_true rfl, Nat.le_of_ble_eq_true rfl⟩ (Nat.le_of_ble_eq_true rfl) dL_law_1230 rfl rfl rfl ?_
  refine ro_aload_n (pc' := 1234) dL_law_1233 rfl rfl rfl ?_
  refine ro_aload_n (pc' := 1235) dL_law_1234 rfl rfl rfl ?_
  refine ro_iload_n (pc' := 1236) dL_law_1235 rfl rfl rfl ?_
  refine ro_iconst (pc' := 1237) dL_law_1236 ic_1 rfl ?_
  refine ro_iadd (pc' := 1238) dL_law_1237 rfl ?_
  obtain ⟨v7, hv7, h⟩ := ah_bs h
  refine ro_sld (pc' := 1239) hsc dL_law_1238 rfl hv7 ?_
  refine ro_aload_n (pc' := 1240) dL_law_1239 rfl rfl rfl ?_
  refine ro_iload_n (pc' := 1241) dL_law_1240 rfl rfl rfl ?_
  refine ro_iconst (pc' := 1242) dL_law_1241 ic_2 rfl ?_
  refine ro_iadd (pc' := 1243) dL_law_1242 rfl ?_
  obtain ⟨v8, hv8, h⟩ := ah_bs h
  refine ro_sld (pc' := 1244) hsc dL_law_1243 rfl hv8 ?_
  refine ro_aload_n (pc' := 1245) dL_law_1244 rfl rfl rfl ?_
  refine ro_iload_n (pc' := 1246) dL_law_1245 rfl rfl rfl ?_
  refine ro_iconst (pc' := 1247) dL_law_1246 ic_3 rfl ?_
  refine ro_iadd (pc' := 1248) dL_law_1247 rfl ?_
  obtain ⟨v9, hv9, h⟩ := ah_bs h
  refine ro_sld (pc' := 1249) hsc dL_law_1248 rfl hv9 ?_
  obtain ⟨u10, hu10, h⟩ := ah_bs h
  obtain ⟨v11, σ12, hv11, h⟩ := ah_bs2 h
  refine ro_callV (pc' := 1252) (As := [.int v7, .int v8, .int v9]) (rest := [.int v5]) (st' := [.int v11, .int v5]) (by decide) hu10 q1882 sl_X6_row (M_X6_row hv11) q1881 q1884 q104 dd_X6_row rfl ⟨Nat.le_of_ble_eq_true rfl, Nat.le_of_ble_eq_true rfl⟩ (Nat.le_of_ble_eq_true rfl) dL_law_1249 rfl rfl rfl ?_
  refine ro_icmp_eq (pc' := 1255) (tgt := 1483) dL_law_1252 rfl rfl (fun c => ?_) (fun c => ?_)
  · replace h := ah_ip c h
    exact hk1483 _ _ _ _ h
  · replace h := ah_in_ c h
    refine ro_iconst (pc' := 1256) dL_law_1255 ic_0 rfl ?_
    obtain rfl := Option.some.inj h
    exact ro_zret rfl hκ dL_law_1256
set_option maxRecDepth 20000 in
set_option maxHeartbeats 4000000 in
theorem W_L_law_1257 {κ : ah_C} {rr : (Int32 × ah_S)} (hκ : ah_res κ = (.returned (some (.int rr.1)), rr.2)) (hso : ah_kso κ) {sb sL : Nat} {sx : Nat → Int32} (hsc : ah_scr κ sb sL sx) {k1483 : ah_S → Option Nat → Option Nat → Int32 → Option (Int32 × ah_S)} (hk1483 : ∀ (σ : ah_S) (r1 : Option Nat) (r2 : Option Nat) (x3 : Int32), k1483 σ r1 r2 x3 = some rr → ah_G κ ("LeftAsFoundLaw", "law", 4, (some FieldType.boolean), [], 2048, 84000) cL_law σ 1483 [some (va_rf (some sb)), some (va_rf r1), some (va_rf r2), some (.int x3)] []) : ∀ (σ : ah_S) (r1 : Option Nat) (r2 : Option Nat) (x3 : Int32), F_L_law_1257 sL sx k1483 σ r1 r2 x3 = some rr → ah_G κ ("LeftAsFoundLaw", "law", 4, (some FieldType.boolean), [], 2048, 84000) cL_law σ 1257 [some (va_rf (some sb)), some (va_rf r1), some (va_rf r2), some (.int x3)] [] := by
  intro σ r1 r2 x3 h
  unfold F_L_law_1257 at h
  refine ro_aload_n (pc' := 1258) dL_law_1257 rfl rfl rfl ?_
  refine ro_aload_n (pc' := 1259) dL_law_1258 rfl rfl rfl ?_
  refine ro_iload_n (pc' := 1260) dL_law_1259 rfl rfl rfl ?_
  refine ro_iconst (pc' := 1261) dL_law_1260 ic_1 rfl ?_
  refine ro_iadd (pc' := 1262) dL_law_1261 rfl ?_
  obtain ⟨v1, hv1, h⟩ := ah_bs h
  refine ro_sld (pc' := 1263) hsc dL_law_1262 rfl hv1 ?_
  refine ro_aload_n (pc' := 1264) dL_law_1263 rfl rfl rfl ?_
  refine ro_iload_n (pc' := 1265) dL_law_1264 rfl rfl rfl ?_
  refine ro_iconst (pc' := 1266) dL_law_1265 ic_2 rfl ?_
  refine ro_iadd (pc' := 1267) dL_law_1266 rfl ?_
  obtain ⟨v2, hv2, h⟩ := ah_bs h
  refine ro_sld (pc' := 1268) hsc dL_law_1267 rfl hv2 ?_
  refine ro_aload_n (pc' := 1269) dL_law_1268 rfl rfl rfl ?_
  refine ro_iload_n (pc' := 1270) dL_law_1269 rfl rfl rfl ?_
  refine ro_iconst (pc' := 1271) dL_law_1270 ic_3 rfl ?_
  refine ro_iadd (pc' := 1272) dL_law_1271 rfl ?_
  obtain ⟨v3, hv3, h⟩ := ah_bs h
  refine ro_sld (pc' := 1273) hsc dL_law_1272 rfl hv3 ?_
  refine ro_i2l (pc' := 1274) dL_law_1273 rfl ?_
  refine ro_bipush (pc' := 1276) dL_law_1274 ib_32 rfl ?_
  refine ro_lshl (pc' := 1277) dL_law_1276 rfl ?_
  refine ro_aload_n (pc' := 1278) dL_law_1277 rfl rfl rfl ?_
  refine ro_iload_n (pc' := 1279) dL_law_1278 rfl rfl rfl ?_
  refine ro_iconst (pc' := 1280) dL_law_1279 ic_4 rfl ?_
  refine ro_iadd (pc' := 1281) dL_law_1280 rfl ?_
  obtain ⟨v4, hv4, h⟩ := ah_bs h
  refine ro_sld (pc' := 1282) hsc dL_law_1281 rfl hv4 ?_
  refine ro_i2l (pc' := 1283) dL_law_1282 rfl ?_
  refine ro_ldc2 (pc' := 1286) q1905 dL_law_1283 rfl ?_
  refine ro_land (pc' := 1287) dL_law_1286 rfl ?_
  refine ro_lor (pc' := 1288) dL_law_1287 rfl ?_
  obtain ⟨u5, hu5, h⟩ := ah_bs h
  obtain ⟨v6, σ7, hv6, h⟩ := ah_bs2 h
  refine ro_callV (pc' := 1291) (As := [.int v1, .int v2, .long (((v3.toInt64) <<< ((32 : Int32).toInt64 &&& 63)) ||| ((v4.toInt64) &&& (4294967295 : Int64)))]) (rest := []) (st' := [.int v6]) (by decide) hu5 q1215 sl_X0_put (M_X0_put hv6) q1214 q1217 q95 dd_X0_put rfl ⟨Nat.le_of_ble_eq_true rfl, Nat.le_of_ble_eq_true rfl⟩ (Nat.le_of_ble_eq_true rfl) dL_law_1288 rfl rfl rfl ?_
  refine ro_aload_n (pc' := 1292) dL_law_1291 rfl rfl rfl ?_
  refine ro_aload_n (pc' := 1293) dL_law_1292 rfl rfl rfl ?_
  refine ro_iload_n (pc' := 1294) dL_law_1293 rfl rfl rfl ?_
  refine ro_iconst (pc' := 1295) dL_law_1294 ic_1 rfl ?_
  refine ro_iadd (pc' := 1296) dL_law_1295 rfl ?_
  obtain ⟨v8, hv8, h⟩ := ah_bs h
  refine ro_sld (pc' := 1297) hsc dL_law_1296 rfl hv8 ?_
  refine ro_aload_n (pc' := 1298) dL_law_1297 rfl rfl rfl ?_
  refine ro_iload_n (pc' := 1299) dL_law_1298 rfl rfl rfl ?_
  refine ro_iconst (pc' := 1300) dL_law_1299 ic_2 rfl ?_
  refine ro_iadd (pc' := 1301) dL_law_1300 rfl ?_
  obtain ⟨v9, hv9, h⟩ := ah_bs h
  refine ro_sld (pc' := 1302) hsc dL_law_1301 rfl hv9 ?_
  refine ro_aload_n (pc' := 1303) dL_law_1302 rfl rfl rfl ?_
  refine ro_iload_n (pc' := 1304) dL_law_1303 rfl rfl rfl ?_
  refine ro_iconst (pc' := 1305) dL_law_1304 ic_3 rfl ?_
  refine ro_iadd (pc' := 1306) dL_law_1305 rfl ?_
  obtain ⟨v10, hv10, h⟩ := ah_bs h
  refine ro_sld (pc' := 1307) hsc dL_law_1306 rfl hv10 ?_
  refine ro_i2l (pc' := 1308) dL_law_1307 rfl ?_
  refine ro_bipush (pc' := 1310) dL_law_1308 ib_32 rfl ?_
  refine ro_lshl (pc' := 1311) dL_law_1310 rfl ?_
  refine ro_aload_n (pc' := 1312) dL_law_1311 rfl rfl rfl ?_
  refine ro_iload_n (pc' := 1313) dL_law_1312 rfl rfl rfl ?_
  refine ro_iconst (pc' := 1314) dL_law_1313 ic_4 rfl ?_
  refine ro_iadd (pc' := 1315) dL_law_1314 rfl ?_
  obtain ⟨v11, hv11, h⟩ := ah_bs h
  refine ro_sld (pc' := 1316) hsc dL_law_1315 rfl hv11 ?_
  refine ro_i2l (pc' := 1317) dL_law_1316 rfl ?_
  refine ro_ldc2 (pc' := 1320) q1905 dL_law_1317 rfl ?_
  refine ro_land (pc' := 1321) dL_law_1320 rfl ?_
  refine ro_lor (pc' := 1322) dL_law_1321 rfl ?_
  obtain ⟨u12, hu12, h⟩ := ah_bs h
  obtain ⟨v13, σ14, hv13, h⟩ := ah_bs2 h
  refine ro_callV (pc' := 1325) (As := [.int v8, .int v9, .long (((v10.toInt64) <<< ((32 : Int32).toInt64 &&& 63)) ||| ((v11.toInt64) &&& (4294967295 : Int64)))]) (rest := [.int v6]) (st' := [.int v13, .int v6]) (by decide) hu12 q1886 sl_X6_put (M_X6_put hv13) q1885 q1888 q104 dd_X6_put rfl ⟨Nat.le_of_ble_eq_true rfl, Nat.le_of_ble_eq_true rfl⟩ (Nat.le_of_ble_eq_true rfl) dL_law_1322 rfl rfl rfl ?_
  refine ro_icmp_eq (pc' := 1328) (tgt := 1483) dL_law_1325 rfl rfl (fun c => ?_) (fun c => ?_)
  · replace h := ah_ip c h
    exact hk1483 _ _ _ _ h
  · replace h := ah_in_ c h
    refine ro_iconst (pc' := 1329) dL_law_1328 ic_0 rfl ?_
    obtain rfl := Option.some.inj h
    exact ro_zret rfl hκ dL_law_1329
set_option maxRecDepth 20000 in
set_option maxHeartbeats 4000000 in
theorem W_L_law_1330 {κ : ah_C} {rr : (Int32 × ah_S)} (hκ : ah_res κ = (.returned (some (.int rr.1)), rr.2)) (hso : ah_kso κ) {sb sL : Nat} {sx : Nat → Int32} (hsc : ah_scr κ sb sL sx) {k1483 : ah_S → Option Nat → Option Nat → Int32 → Option (Int32 × ah_S)} (hk1483 : ∀ (σ : ah_S) (r1 : Option Nat) (r2 : Option Nat) (x3 : Int32), k1483 σ r1 r2 x3 = some rr → ah_G κ ("LeftAsFoundLaw", "law", 4, (some FieldType.boolean), [], 2048, 84000) cL_law σ 1483 [some (va_rf (some sb)), some (va_rf r1), some (va_rf r2), some (.int x3)] []) : ∀ (σ : ah_S) (r1 : Option Nat) (r2 : Option Nat) (x3 : Int32), F_L_law_1330 sL sx k1483 σ r1 r2 x3 = some rr → ah_G κ ("LeftAsFoundLaw", "law", 4, (some FieldType.boolean), [], 2048, 84000) cL_law σ 1330 [some (va_rf (some sb)), some (va_rf r1), some (va_rf r2), some (.int x3)] [] := by
  intro σ r1 r2 x3 h
  unfold F_L_law_1330 at h
  refine ro_aload_n (pc' := 1331) dL_law_1330 rfl rfl rfl ?_
  refine ro_aload_n (pc' := 1332) dL_law_1331 rfl rfl rfl ?_
  refine ro_iload_n (pc' := 1333) dL_law_1332 rfl rfl rfl ?_
  refine ro_iconst (pc' := 1334) dL_law_1333 ic_1 rfl ?_
  refine ro_iadd (pc' := 1335) dL_law_1334 rfl ?_
  obtain ⟨v1, hv1, h⟩ := ah_bs h
  refine ro_sld (pc' := 1336) hsc dL_law_1335 rfl hv1 ?_
  refine ro_aload_n (pc' := 1337) dL_law_1336 rfl rfl rfl ?_
  refine ro_iload_n (pc' := 1338) dL_law_1337 rfl rfl rfl ?_
  refine ro_iconst (pc' := 1339) dL_law_1338 ic_2 rfl ?_
  refine ro_iadd (pc' := 1340) dL_law_1339 rfl ?_
  obtain ⟨v2, hv2, h⟩ := ah_bs h
  refine ro_sld (pc' := 1341) hsc dL_law_1340 rfl hv2 ?_
  obtain ⟨u3, hu3, h⟩ := ah_bs h
  obtain ⟨v4, σ5, hv4, h⟩ := ah_bs2 h
  refine ro_callV (pc' := 1344) (As := [.int v1, .int v2]) (rest := []) (st' := [.long v4]) (by decide) hu3 q1226 sl_X0_element (M_X0_element hv4) q1225 q1228 q95 dd_X0_element rfl ⟨Nat.le_of_ble_eq_true rfl, Nat.le_of_ble_eq_true rfl⟩ (Nat.le_of_ble_eq_true rfl) dL_law_1341 rfl rfl rfl ?_
  refine ro_aload_n (pc' := 1345) dL_law_1344 rfl rfl rfl ?_
  refine ro_aload_n (pc' := 1346) dL_law_1345 rfl rfl rfl ?_
  refine ro_iload_n (pc' := 1347) dL_law_1346 rfl rfl rfl ?_
  refine ro_iconst (pc' := 1348) dL_law_1347 ic_1 rfl ?_
  refine ro_iadd (pc' := 1349) dL_law_1348 rfl ?_
  obtain ⟨v6, hv6, h⟩ := ah_bs h
  refine ro_sld (pc' := 1350) hsc dL_law_1349 rfl hv6 ?_
  refine ro_aload_n (pc' := 1351) dL_law_1350 rfl rfl rfl ?_
  refine ro_iload_n (pc' := 1352) dL_law_1351 rfl rfl rfl ?_
  refine ro_iconst (pc' := 1353) dL_law_1352 ic_2 rfl ?_
  refine ro_iadd (pc' := 1354) dL_law_1353 rfl ?_
  obtain ⟨v7, hv7, h⟩ := ah_bs h
  refine ro_sld (pc' := 1355) hsc dL_law_1354 rfl hv7 ?_
  obtain ⟨u8, hu8, h⟩ := ah_bs h
  obtain ⟨v9, σ10, hv9, h⟩ := ah_bs2 h
  refine ro_callV (pc' := 1358) (As := [.int v6, .int v7]) (rest := [.long v4]) (st' := [.long v9, .long v4]) (by decide) hu8 q1894 sl_X6_element (M_X6_element hv9) q1893 q1896 q104 dd_X6_element rfl ⟨Nat.le_of_ble_eq_true rfl, Nat.le_of_ble_eq_true rfl⟩ (Nat.le_of_ble_eq_true rfl) dL_law_1355 rfl rfl rfl ?_
  refine ro_lcmp (pc' := 1359) dL_law_1358 rfl ?_
  refine ro_if_eq (pc' := 1362) (tgt := 1483) dL_law_1359 rfl rfl (fun c => ?_) (fun c => ?_)
  · replace h := ah_ip c h
    exact hk1483 _ _ _ _ h
  · replace h := ah_in_ c h
    refine ro_iconst (pc' := 1363) dL_law_1362 ic_0 rfl ?_
    obtain rfl := Option.some.inj h
    exact ro_zret rfl hκ dL_law_1363
set_option maxRecDepth 20000 in
set_option maxHeartbeats 4000000 in
theorem W_L_law_1364 {κ : ah_C} {rr : (Int32 × ah_S)} (hκ : ah_res κ = (.returned (some (.int rr.1)), rr.2)) (hso : ah_kso κ) {sb sL : Nat} {sx : Nat → Int32} (hsc : ah_scr κ sb sL sx) {k1483 : ah_S → Option Nat → Option Nat → Int32 → Option (Int32 × ah_S)} (hk1483 : ∀ (σ : ah_S) (r1 : Option Nat) (r2 : Option Nat) (x3 : Int32), k1483 σ r1 r2 x3 = some rr → ah_G κ ("LeftAsFoundLaw", "law", 4, (some FieldType.boolean), [], 2048, 84000) cL_law σ 1483 [some (va_rf (some sb)), some (va_rf r1), some (va_rf r2), some (.int x3)] []) : ∀ (σ : ah_S) (r1 : Option Nat) (r2 : Option Nat) (x3 : Int32), F_L_law_1364 sL sx k1483 σ r1 r2 x3 = some rr → ah_G κ ("LeftAsFoundLaw", "law", 4, (some FieldType.boolean), [], 2048, 84000) cL_law σ 1364 [some (va_rf (some sb)), some (va_rf r1), some (va_rf r2), some (.int x3)] [] := by
  intro σ r1 r2 x3 h
  unfold F_L_law_1364 at h
  refine ro_aload_n (pc' := 1365) dL_law_1364 rfl rfl rfl ?_
  refine ro_aload_n (pc' := 1366) dL_law_1365 rfl rfl rfl ?_
  refine ro_iload_n (pc' := 1367) dL_law_1366 rfl rfl rfl ?_
  refine ro_iconst (pc' := 1368) dL_law_1367 ic_1 rfl ?_
  refine ro_iadd (pc' := 1369) dL_law_1368 rfl ?_
  obtain ⟨v1, hv1, h⟩ := ah_bs h
  refine ro_sld (pc' := 1370) hsc dL_law_1369 rfl hv1 ?_
  refine ro_aload_n (pc' := 1371) dL_law_1370 rfl rfl rfl ?_
  refine ro_iload_n (pc' := 1372) dL_law_1371 rfl rfl rfl ?_
  refine ro_iconst (pc' := 1373) dL_law_1372 ic_2 rfl ?_
  refine ro_iadd (pc' := 1374) dL_law_1373 rfl ?_
  obtain ⟨v2, hv2, h⟩ := ah_bs h
  refine ro_sld (pc' := 1375) hsc dL_law_1374 rfl hv2 ?_
  refine ro_aload_n (pc' := 1376) dL_law_1375 rfl rfl rfl ?_
  refine ro_iload_n (pc' := 1377) dL_law_1376 rfl rfl rfl ?_
  refine ro_iconst (pc' := 1378) dL_law_1377 ic_3 rfl ?_
  refine ro_iadd (pc' := 1379) dL_law_1378 rfl ?_
  obtain ⟨v3, hv3, h⟩ := ah_bs h
  refine ro_sld (pc' := 1380) hsc dL_law_1379 rfl hv3 ?_
  refine ro_aload_n (pc' := 1381) dL_law_1380 rfl rfl rfl ?_
  refine ro_iload_n (pc' := 1382) dL_law_1381 rfl rfl rfl ?_
  refine ro_iconst (pc' := 1383) dL_law_1382 ic_4 rfl ?_
  refine ro_iadd (pc' := 1384) dL_law_1383 rfl ?_
  obtain ⟨v4, hv4, h⟩ := ah_bs h
  refine ro_sld (pc' := 1385) hsc dL_law_1384 rfl hv4 ?_
  refine ro_aload_n (pc' := 1386) dL_law_1385 rfl rfl rfl ?_
  refine ro_iload_n (pc' := 1387) dL_law_1386 rfl rfl rfl ?_
  refine ro_iconst (pc' := 1388) dL_law_1387 ic_5 rfl ?_
  refine ro_iadd (pc' := 1389) dL_law_1388 rfl ?_
  obtain ⟨v5, hv5, h⟩ := ah_bs h
  refine ro_sld (pc' := 1390) hsc dL_law_1389 rfl hv5 ?_
  obtain ⟨u6, hu6, h⟩ := ah_bs h
  obtain ⟨v7, σ8, hv7, h⟩ := ah_bs2 h
  refine ro_callV (pc' := 1393) (As := [.int v1, .int v2, .int v3, .int v4, .int v5]) (rest := []) (st' := [.int v7]) (by decide) hu6 q1230 sl_X0_shift (M_X0_shift hv7) q1229 q1232 q95 dd_X0_shift rfl ⟨Nat.le_of_ble_eq_true rfl, Nat.le_of_ble_eq_true rfl⟩ (Nat.le_of_ble_eq_true rfl) dL_law_1390 rfl rfl rfl ?_
  refine ro_aload_n (pc' := 1394) dL_law_1393 rfl rfl rfl ?_
  refine ro_aload_n (pc' := 1395) dL_law_1394 rfl rfl rfl ?_
  refine ro_iload_n (pc' := 1396) dL_law_1395 rfl rfl rfl ?_
  refine ro_iconst (pc' := 1397) dL_law_1396 ic_1 rfl ?_
  refine ro_iadd (pc' := 1398) dL_law_1397 rfl ?_
  obtain ⟨v9, hv9, h⟩ := ah_bs h
  refine ro_sld (pc' := 1399) hsc dL_law_1398 rfl hv9 ?_
  refine ro_aload_n (pc' := 1400) dL_law_1399 rfl rfl rfl ?_
  refine ro_iload_n (pc' := 1401) dL_law_1400 rfl rfl rfl ?_
  refine ro_iconst (pc' := 1402) dL_law_1401 ic_2 rfl ?_
  refine ro_iadd (pc' := 1403) dL_law_1402 rfl ?_
  obtain ⟨v10, hv10, h⟩ := ah_bs h
  refine ro_sld (pc' := 1404) hsc dL_law_1403 rfl hv10 ?_
  refine ro_aload_n (pc' := 1405) dL_law_1404 rfl rfl rfl ?_
  refine ro_iload_n (pc' := 1406) dL_law_1405 rfl rfl rfl ?_
  refine ro_iconst (pc' := 1407) dL_law_1406 ic_3 rfl ?_
  refine ro_iadd (pc' := 1408) dL_law_1407 rfl ?_
  obtain ⟨v11, hv11, h⟩ := ah_bs h
  refine ro_sld (pc' := 1409) hsc dL_law_1408 rfl hv11 ?_
  refine ro_aload_n (pc' := 1410) dL_law_1409 rfl rfl rfl ?_
  refine ro_iload_n (pc' := 1411) dL_law_1410 rfl rfl rfl ?_
  refine ro_iconst (pc' := 1412) dL_law_1411 ic_4 rfl ?_
  refine ro_iadd (pc' := 1413) dL_law_1412 rfl ?_
  obtain ⟨v12, hv12, h⟩ := ah_bs h
  refine ro_sld (pc' := 1414) hsc dL_law_1413 rfl hv12 ?_
  refine ro_aload_n (pc' := 1415) dL_law_1414 rfl rfl rfl ?_
  refine ro_iload_n (pc' := 1416) dL_law_1415 rfl rfl rfl ?_
  refine ro_iconst (pc' := 1417) dL_law_1416 ic_5 rfl ?_
  refine ro_iadd (pc' := 1418) dL_law_1417 rfl ?_
  obtain ⟨v13, hv13, h⟩ := ah_bs h
  refine ro_sld (pc' := 1419) hsc dL_law_1418 rfl hv13 ?_
  obtain ⟨u14, hu14, h⟩ := ah_bs h
  obtain ⟨v15, σ16, hv15, h⟩ := ah_bs2 h
  refine ro_callV (pc' := 1422) (As := [.int v9, .int v10, .int v11, .int v12, .int v13]) (rest := [.int v7]) (st' := [.int v15, .int v7]) (by decide) hu14 q1898 sl_X6_shift (M_X6_shift hv15) q1897 q1900 q104 dd_X6_shift rfl ⟨Nat.le_of_ble_eq_true rfl, Nat.le_of_ble_eq_true rfl⟩ (Nat.le_of_ble_eq_true rfl) dL_law_1419 rfl rfl rfl ?_
  refine ro_icmp_eq (pc' := 1425) (tgt := 1483) dL_law_1422 rfl rfl (fun c => ?_) (fun c => ?_)
  · replace h := ah_ip c h
    exact hk1483 _ _ _ _ h
  · replace h := ah_in_ c h
    refine ro_iconst (pc' := 1426) dL_law_1425 ic_0 rfl ?_
    obtain rfl := Option.some.inj h
    exact ro_zret rfl hκ dL_law_1426
set_option maxRecDepth 20000 in
set_option maxHeartbeats 4000000 in
theorem W_L_law_1427 {κ : ah_C} {rr : (Int32 × ah_S)} (hκ : ah_res κ = (.returned (some (.int rr.1)), rr.2)) (hso : ah_kso κ) {sb sL : Nat} {sx : Nat → Int32} (hsc : ah_scr κ sb sL sx) {k1483 : ah_S → Option Nat → Option Nat → Int32 → Option (Int32 × ah_S)} (hk1483 : ∀ (σ : ah_S) (r1 : Option Nat) (r2 : Option Nat) (x3 : Int32), k1483 σ r1 r2 x3 = some rr → ah_G κ ("LeftAsFoundLaw", "law", 4, (some FieldType.boolean), [], 2048, 84000) cL_law σ 1483 [some (va_rf (some sb)), some (va_rf r1), some (va_rf r2), some (.int x3)] []) : ∀ (σ : ah_S) (r1 : Option Nat) (r2 : Option Nat) (x3 : Int32), F_L_law_1427 sL sx k1483 σ r1 r2 x3 = some rr → ah_G κ ("LeftAsFoundLaw", "law", 4, (some FieldType.boolean), [], 2048, 84000) cL_law σ 1427 [some (va_rf (some sb)), some (va_rf r1), some (va_rf r2), some (.int x3)] [] := by
  intro σ r1 r2 x3 h
  unfold F_L_law_1427 at h
  refine ro_aload_n (pc' := 1428) dL_law_1427 rfl rfl rfl ?_
  refine ro_aload_n (pc' := 1429) dL_law_1428 rfl rfl rfl ?_
  refine ro_iload_n (pc' := 1430) dL_law_1429 rfl rfl rfl ?_
  refine ro_iconst (pc' := 1431) dL_law_1430 ic_1 rfl ?_
  refine ro_iadd (pc' := 1432) dL_law_1431 rfl ?_
  obtain ⟨v1, hv1, h⟩ := ah_bs h
  refine ro_sld (pc' := 1433) hsc dL_law_1432 rfl hv1 ?_
  refine ro_aload_n (pc' := 1434) dL_law_1433 rfl rfl rfl ?_
  refine ro_iload_n (pc' := 1435) dL_law_1434 rfl rfl rfl ?_
  refine ro_iconst (pc' := 1436) dL_law_1435 ic_2 rfl ?_
  refine ro_iadd (pc' := 1437) dL_law_1436 rfl ?_
  obtain ⟨v2, hv2, h⟩ := ah_bs h
  refine ro_sld (pc' := 1438) hsc dL_law_1437 rfl hv2 ?_
  obtain ⟨u3, hu3, h⟩ := ah_bs h
  obtain ⟨v4, σ5, hv4, h⟩ := ah_bs2 h
  refine ro_callV (pc' := 1441) (As := [.int v1, .int v2]) (rest := []) (st' := [.int v4]) (by decide) hu3 q1234 sl_X0_taken (M_X0_taken hv4) q1233 q1236 q95 dd_X0_taken rfl ⟨Nat.le_of_ble_eq_true rfl, Nat.le_of_ble_eq_true rfl⟩ (Nat.le_of_ble_eq_true rfl) dL_law_1438 rfl rfl rfl ?_
  refine ro_aload_n (pc' := 1442) dL_law_1441 rfl rfl rfl ?_
  refine ro_aload_n (pc' := 1443) dL_law_1442 rfl rfl rfl ?_
  refine ro_iload_n (pc' := 1444) dL_law_1443 rfl rfl rfl ?_
  refine ro_iconst (pc' := 1445) dL_law_1444 ic_1 rfl ?_
  refine ro_iadd (pc' := 1446) dL_law_1445 rfl ?_
  obtain ⟨v6, hv6, h⟩ := ah_bs h
  refine ro_sld (pc' := 1447) hsc dL_law_1446 rfl hv6 ?_
  refine ro_aload_n (pc' := 1448) dL_law_1447 rfl rfl rfl ?_
  refine ro_iload_n (pc' := 1449) dL_law_1448 rfl rfl rfl ?_
  refine ro_iconst (pc' := 1450) dL_law_1449 ic_2 rfl ?_
  refine ro_iadd (pc' := 1451) dL_law_1450 rfl ?_
  obtain ⟨v7, hv7, h⟩ := ah_bs h
  refine ro_sld (pc' := 1452) hsc dL_law_1451 rfl hv7 ?_
  obtain ⟨u8, hu8, h⟩ := ah_bs h
  obtain ⟨v9, σ10, hv9, h⟩ := ah_bs2 h
  refine ro_callV (pc' := 1455) (As := [.int v6, .int v7]) (rest := [.int v4]) (st' := [.int v9, .int v4]) (by decide) hu8 q1902 sl_X6_taken (M_X6_taken hv9) q1901 q1904 q104 dd_X6_taken rfl ⟨Nat.le_of_ble_eq_true rfl, Nat.le_of_ble_eq_true rfl⟩ (Nat.le_of_ble_eq_true rfl) dL_law_1452 rfl rfl rfl ?_
  refine ro_icmp_eq (pc' := 1458) (tgt := 1483) dL_law_1455 rfl rfl (fun c => ?_) (fun c => ?_)
  · replace h := ah_ip c h
    exact hk1483 _ _ _ _ h
  · replace h := ah_in_ c h
    refine ro_iconst (pc' := 1459) dL_law_1458 ic_0 rfl ?_
    obtain rfl := Option.some.inj h
    exact ro_zret rfl hκ dL_law_1459
set_option maxRecDepth 20000 in
set_option maxHeartbeats 4000000 in
theorem W_L_law_1460 {κ : ah_C} {rr : (Int32 × ah_S)} (hκ : ah_res κ = (.returned (some (.int rr.1)), rr.2)) (hso : ah_kso κ) {sb sL : Nat} {sx : Nat → Int32} (hsc : ah_scr κ sb sL sx) {k1483 : ah_S → Option Nat → Option Nat → Int32 → Option (Int32 × ah_S)} (hk1483 : ∀ (σ : ah_S) (r1 : Option Nat) (r2 : Option Nat) (x3 : Int32), k1483 σ r1 r2 x3 = some rr → ah_G κ ("LeftAsFoundLaw", "law", 4, (some FieldType.boolean), [], 2048, 84000) cL_law σ 1483 [some (va_rf (some sb)), some (va_rf r1), some (va_rf r2), some (.int x3)] []) : ∀ (σ : ah_S) (r1 : Option Nat) (r2 : Option Nat) (x3 : Int32), F_L_law_1460 sL sx k1483 σ r1 r2 x3 = some rr → ah_G κ ("LeftAsFoundLaw", "law", 4, (some FieldType.boolean), [], 2048, 84000) cL_law σ 1460 [some (va_rf (some sb)), some (va_rf r1), some (va_rf r2), some (.int x3)] [] := by
  intro σ r1 r2 x3 h
  unfold F_L_law_1460 at h
  refine ro_aload_n (pc' := 1461) dL_law_1460 rfl rfl rfl ?_
  refine ro_aload_n (pc' := 1462) dL_law_1461 rfl rfl rfl ?_
  refine ro_iload_n (pc' := 1463) dL_law_1462 rfl rfl rfl ?_
  refine ro_iconst (pc' := 1464) dL_law_1463 ic_1 rfl ?_
  refine ro_iadd (pc' := 1465) dL_law_1464 rfl ?_
  obtain ⟨v1, hv1, h⟩ := ah_bs h
  refine ro_sld (pc' := 1466) hsc dL_law_1465 rfl hv1 ?_
  obtain ⟨u2, hu2, h⟩ := ah_bs h
  obtain ⟨v3, σ4, hv3, h⟩ := ah_bs2 h
  refine ro_callV (pc' := 1469) (As := [.int v1]) (rest := []) (st' := [.int v3]) (by decide) hu2 q1297 sl_X0_count (M_X0_count hv3) q1296 q1299 q95 dd_X0_count rfl ⟨Nat.le_of_ble_eq_true rfl, Nat.le_of_ble_eq_true rfl⟩ (Nat.le_of_ble_eq_true rfl) dL_law_1466 rfl rfl rfl ?_
  refine ro_aload_n (pc' := 1470) dL_law_1469 rfl rfl rfl ?_
  refine ro_aload_n (pc' := 1471) dL_law_1470 rfl rfl rfl ?_
  refine ro_iload_n (pc' := 1472) dL_law_1471 rfl rfl rfl ?_
  refine ro_iconst (pc' := 1473) dL_law_1472 ic_1 rfl ?_
  refine ro_iadd (pc' := 1474) dL_law_1473 rfl ?_
  obtain ⟨v5, hv5, h⟩ := ah_bs h
  refine ro_sld (pc' := 1475) hsc dL_law_1474 rfl hv5 ?_
  obtain ⟨u6, hu6, h⟩ := ah_bs h
  obtain ⟨v7, σ8, hv7, h⟩ := ah_bs2 h
  refine ro_callV (pc' := 1478) (As := [.int v5]) (rest := [.int v3]) (st' := [.int v7, .int v3]) (by decide) hu6 q1870 sl_X6_count (M_X6_count hv7) q1869 q1872 q104 dd_X6_count rfl ⟨Nat.le_of_ble_eq_true rfl, Nat.le_of_ble_eq_true rfl⟩ (Nat.le_of_ble_eq_true rfl) dL_law_1475 rfl rfl rfl ?_
  refine ro_icmp_eq (pc' := 1481) (tgt := 1483) dL_law_1478 rfl rfl (fun c => ?_) (fun c => ?_)
  · replace h := ah_ip c h
    exact hk1483 _ _ _ _ h
  · replace h := ah_in_ c h
    refine ro_iconst (pc' := 1482) dL_law_1481 ic_0 rfl ?_
    obtain rfl := Option.some.inj h
    exact ro_zret rfl hκ dL_law_1482
set_option maxRecDepth 20000 in
set_option maxHeartbeats 4000000 in
theorem W_L_law_1483 {κ : ah_C} {rr : (Int32 × ah_S)} (hκ : ah_res κ = (.returned (some (.int rr.1)), rr.2)) (hso : ah_kso κ) {sb sL : Nat} {sx : Nat → Int32} (hsc : ah_scr κ sb sL sx) {k18 : ah_S → Option Nat → Option Nat → Int32 → Option (Int32 × ah_S)} (hk18 : ∀ (σ : ah_S) (r1 : Option Nat) (r2 : Option Nat) (x3 : Int32), k18 σ r1 r2 x3 = some rr → ah_G κ ("LeftAsFoundLaw", "law", 4, (some FieldType.boolean), [], 2048, 84000) cL_law σ 18 [some (va_rf (some sb)), some (va_rf r1), some (va_rf r2), some (.int x3)] []) : ∀ (σ : ah_S) (r1 : Option Nat) (r2 : Option Nat) (x3 : Int32), F_L_law_1483 sL sx k18 σ r1 r2 x3 = some rr → ah_G κ ("LeftAsFoundLaw", "law", 4, (some FieldType.boolean), [], 2048, 84000) cL_law σ 1483 [some (va_rf (some sb)), some (va_rf r1), some (va_rf r2), some (.int x3)] [] := by
  intro σ r1 r2 x3 h
  unfold F_L_law_1483 at h
  refine ro_iinc (pc' := 1486) (L' := [some (va_rf (some sb)), some (va_rf r1), some (va_rf r2), some (.int (x3 + (6 : Int32)))]) dL_law_1483 rfl ic_6 (Nat.le_of_ble_eq_true rfl) rfl (ah_okp_r _) rfl ?_
  refine ro_goto (tgt := 18) dL_law_1486 rfl ?_
  exact hk18 _ _ _ _ h
set_option maxRecDepth 20000 in
set_option maxHeartbeats 4000000 in
theorem W_L_law_18 {κ : ah_C} {rr : (Int32 × ah_S)} (hκ : ah_res κ = (.returned (some (.int rr.1)), rr.2)) (hso : ah_kso κ) {sb sL : Nat} {sx : Nat → Int32} (hsc : ah_scr κ sb sL sx)   : ∀ (n : Nat) (σ : ah_S) (r1 : Option Nat) (r2 : Option Nat) (x3 : Int32), F_L_law_18 sL sx n σ r1 r2 x3 = some rr → ah_G κ ("LeftAsFoundLaw", "law", 4, (some FieldType.boolean), [], 2048, 84000) cL_law σ 18 [some (va_rf (some sb)), some (va_rf r1), some (va_rf r2), some (.int x3)] [] := by
  intro n
  induction n with
  | zero => intro σ r1 r2 x3 h; cases h
  | succ n ih =>
    intro σ r1 r2 x3 h
    rw [F_L_law_18] at h
    refine ro_iload_n (pc' := 19) dL_law_18 rfl rfl rfl ?_
    refine ro_aload_n (pc' := 20) dL_law_19 rfl rfl rfl ?_
    refine ro_slen (pc' := 21) hsc dL_law_20 rfl ?_
    refine ro_bipush (pc' := 23) dL_law_21 ib_6 rfl ?_
    refine ro_isub (pc' := 24) dL_law_23 rfl ?_
    refine ro_icmp_gt (pc' := 27) (tgt := 1489) dL_law_24 rfl rfl (fun c => ?_) (fun c => ?_)
    · replace h := ah_ip c h
      refine ro_iconst (pc' := 1490) dL_law_1489 ic_1 rfl ?_
      obtain rfl := Option.some.inj h
      exact ro_zret rfl hκ dL_law_1490
    · replace h := ah_in_ c h
      refine ro_aload_n (pc' := 28) dL_law_27 rfl rfl rfl ?_
      refine ro_iload_n (pc' := 29) dL_law_28 rfl rfl rfl ?_
      obtain ⟨v1, hv1, h⟩ := ah_bs h
      refine ro_sld (pc' := 30) hsc dL_law_29 rfl hv1 ?_
      refine ro_bipush (pc' := 32) dL_law_30 ib_63 rfl ?_
      refine ro_iand (pc' := 33) dL_law_32 rfl ?_
      by_cases c33_0 : (v1 &&& (63 : Int32)) = (0 : Int32)
      · replace h := ah_ip c33_0 h
        refine ro_tabIn (tgt := 204) 0 c33_0 dL_law_33 (by decide) (by decide) rfl rfl ?_
        exact W_L_law_204 hκ hso hsc (W_L_law_1483 hκ hso hsc ih) _ _ _ _ h
      replace h := ah_in_ c33_0 h
      by_cases c33_1 : (v1 &&& (63 : Int32)) = (1 : Int32)
      · replace h := ah_ip c33_1 h
        refine ro_tabIn (tgt := 237) 1 c33_1 dL_law_33 (by decide) (by decide) rfl rfl ?_
        exact W_L_law_237 hκ hso hsc (W_L_law_1483 hκ hso hsc ih) _ _ _ _ h
      replace h := ah_in_ c33_1 h
      by_cases c33_2 : (v1 &&& (63 : Int32)) = (2 : Int32)
      · replace h := ah_ip c33_2 h
        refine ro_tabIn (tgt := 280) 2 c33_2 dL_law_33 (by decide) (by decide) rfl rfl ?_
        exact W_L_law_280 hκ hso hsc (W_L_law_1483 hκ hso hsc ih) _ _ _ _ h
      replace h := ah_in_ c33_2 h
      by_cases c33_3 : (v1 &&& (63 : Int32)) = (3 : Int32)
      · replace h := ah_ip c33_3 h
        refine ro_tabIn (tgt := 323) 3 c33_3 dL_law_33 (by decide) (by decide) rfl rfl ?_
        exact W_L_law_323 hκ hso hsc (W_L_law_1483 hκ hso hsc ih) _ _ _ _ h
      replace h := ah_in_ c33_3 h
      by_cases c33_4 : (v1 &&& (63 : Int32)) = (4 : Int32)
      · replace h := ah_ip c33_4 h
        refine ro_tabIn (tgt := 356) 4 c33_4 dL_law_33 (by decide) (by decide) rfl rfl ?_
        exact W_L_law_356 hκ hso hsc (W_L_law_1483 hκ hso hsc ih) _ _ _ _ h
      replace h := ah_in_ c33_4 h
      by_cases c33_5 : (v1 &&& (63 : Int32)) = (5 : Int32)
      · replace h := ah_ip c33_5 h
        refine ro_tabIn (tgt := 379) 5 c33_5 dL_law_33 (by decide) (by decide) rfl rfl ?_
        exact W_L_law_379 hκ hso hsc (W_L_law_1483 hκ hso hsc ih) _ _ _ _ h
      replace h := ah_in_ c33_5 h
      by_cases c33_6 : (v1 &&& (63 : Int32)) = (6 : Int32)
      · replace h := ah_ip c33_6 h
        refine ro_tabIn (tgt := 392) 6 c33_6 dL_law_33 (by decide) (by decide) rfl rfl ?_
        exact W_L_law_392 hκ hso hsc (W_L_law_1483 hκ hso hsc ih) _ _ _ _ h
      replace h := ah_in_ c33_6 h
      by_cases c33_7 : (v1 &&& (63 : Int32)) = (7 : Int32)
      · replace h := ah_ip c33_7 h
        refine ro_tabIn (tgt := 435) 7 c33_7 dL_law_33 (by decide) (by decide) rfl rfl ?_
        exact W_L_law_435 hκ hso hsc (W_L_law_1483 hκ hso hsc ih) _ _ _ _ h
      replace h := ah_in_ c33_7 h
      by_cases c33_8 : (v1 &&& (63 : Int32)) = (8 : Int32)
      · replace h := ah_ip c33_8 h
        refine ro_tabIn (tgt := 468) 8 c33_8 dL_law_33 (by decide) (by decide) rfl rfl ?_
        exact W_L_law_468 hκ hso hsc (W_L_law_1483 hκ hso hsc ih) _ _ _ _ h
      replace h := ah_in_ c33_8 h
      by_cases c33_9 : (v1 &&& (63 : Int32)) = (9 : Int32)
      · replace h := ah_ip c33_9 h
        refine ro_tabIn (tgt := 511) 9 c33_9 dL_law_33 (by decide) (by decide) rfl rfl ?_
        exact W_L_law_511 hκ hso hsc (W_L_law_1483 hκ hso hsc ih) _ _ _ _ h
      replace h := ah_in_ c33_9 h
      by_cases c33_10 : (v1 &&& (63 : Int32)) = (10 : Int32)
      · replace h := ah_ip c33_10 h
        refine ro_tabIn (tgt := 534) 10 c33_10 dL_law_33 (by decide) (by decide) rfl rfl ?_
        exact W_L_law_534 hκ hso hsc (W_L_law_1483 hκ hso hsc ih) _ _ _ _ h
      replace h := ah_in_ c33_10 h
      by_cases c33_11 : (v1 &&& (63 : Int32)) = (11 : Int32)
      · replace h := ah_ip c33_11 h
        refine ro_tabIn (tgt := 567) 11 c33_11 dL_law_33 (by decide) (by decide) rfl rfl ?_
        exact W_L_law_567 hκ hso hsc (W_L_law_1483 hκ hso hsc ih) _ _ _ _ h
      replace h := ah_in_ c33_11 h
      by_cases c33_12 : (v1 &&& (63 : Int32)) = (12 : Int32)
      · replace h := ah_ip c33_12 h
        refine ro_tabIn (tgt := 610) 12 c33_12 dL_law_33 (by decide) (by decide) rfl rfl ?_
        exact W_L_law_610 hκ hso hsc (W_L_law_1483 hκ hso hsc ih) _ _ _ _ h
      replace h := ah_in_ c33_12 h
      by_cases c33_13 : (v1 &&& (63 : Int32)) = (13 : Int32)
      · replace h := ah_ip c33_13 h
        refine ro_tabIn (tgt := 643) 13 c33_13 dL_law_33 (by decide) (by decide) rfl rfl ?_
        exact W_L_law_643 hκ hso hsc (W_L_law_1483 hκ hso hsc ih) _ _ _ _ h
      replace h := ah_in_ c33_13 h
      by_cases c33_14 : (v1 &&& (63 : Int32)) = (14 : Int32)
      · replace h := ah_ip c33_14 h
        refine ro_tabIn (tgt := 676) 14 c33_14 dL_law_33 (by decide) (by decide) rfl rfl ?_
        exact W_L_law_676 hκ hso hsc (W_L_law_1483 hκ hso hsc ih) _ _ _ _ h
      replace h := ah_in_ c33_14 h
      by_cases c33_15 : (v1 &&& (63 : Int32)) = (15 : Int32)
      · replace h := ah_ip c33_15 h
        refine ro_tabIn (tgt := 709) 15 c33_15 dL_law_33 (by decide) (by decide) rfl rfl ?_
        exact W_L_law_709 hκ hso hsc (W_L_law_1483 hκ hso hsc ih) _ _ _ _ h
      replace h := ah_in_ c33_15 h
      by_cases c33_16 : (v1 &&& (63 : Int32)) = (16 : Int32)
      · replace h := ah_ip c33_16 h
        refine ro_tabIn (tgt := 743) 16 c33_16 dL_law_33 (by decide) (by decide) rfl rfl ?_
        exact W_L_law_743 hκ hso hsc (W_L_law_1483 hκ hso hsc ih) _ _ _ _ h
      replace h := ah_in_ c33_16 h
      by_cases c33_17 : (v1 &&& (63 : Int32)) = (17 : Int32)
      · replace h := ah_ip c33_17 h
        refine ro_tabIn (tgt := 786) 17 c33_17 dL_law_33 (by decide) (by decide) rfl rfl ?_
        exact W_L_law_786 hκ hso hsc (W_L_law_1483 hκ hso hsc ih) _ _ _ _ h
      replace h := ah_in_ c33_17 h
      by_cases c33_18 : (v1 &&& (63 : Int32)) = (18 : Int32)
      · replace h := ah_ip c33_18 h
        refine ro_tabIn (tgt := 819) 18 c33_18 dL_law_33 (by decide) (by decide) rfl rfl ?_
        exact W_L_law_819 hκ hso hsc (W_L_law_1483 hκ hso hsc ih) _ _ _ _ h
      replace h := ah_in_ c33_18 h
      by_cases c33_19 : (v1 &&& (63 : Int32)) = (19 : Int32)
      · replace h := ah_ip c33_19 h
        refine ro_tabIn (tgt := 852) 19 c33_19 dL_law_33 (by decide) (by decide) rfl rfl ?_
        exact W_L_law_852 hκ hso hsc (W_L_law_1483 hκ hso hsc ih) _ _ _ _ h
      replace h := ah_in_ c33_19 h
      by_cases c33_20 : (v1 &&& (63 : Int32)) = (20 : Int32)
      · replace h := ah_ip c33_20 h
        refine ro_tabIn (tgt := 895) 20 c33_20 dL_law_33 (by decide) (by decide) rfl rfl ?_
        exact W_L_law_895 hκ hso hsc (W_L_law_1483 hκ hso hsc ih) _ _ _ _ h
      replace h := ah_in_ c33_20 h
      by_cases c33_21 : (v1 &&& (63 : Int32)) = (21 : Int32)
      · replace h := ah_ip c33_21 h
        refine ro_tabIn (tgt := 938) 21 c33_21 dL_law_33 (by decide) (by decide) rfl rfl ?_
        exact W_L_law_938 hκ hso hsc (W_L_law_1483 hκ hso hsc ih) _ _ _ _ h
      replace h := ah_in_ c33_21 h
      by_cases c33_22 : (v1 &&& (63 : Int32)) = (22 : Int32)
      · replace h := ah_ip c33_22 h
        refine ro_tabIn (tgt := 961) 22 c33_22 dL_law_33 (by decide) (by decide) rfl rfl ?_
        exact W_L_law_961 hκ hso hsc (W_L_law_1483 hκ hso hsc ih) _ _ _ _ h
      replace h := ah_in_ c33_22 h
      by_cases c33_23 : (v1 &&& (63 : Int32)) = (23 : Int32)
      · replace h := ah_ip c33_23 h
        refine ro_tabIn (tgt := 994) 23 c33_23 dL_law_33 (by decide) (by decide) rfl rfl ?_
        exact W_L_law_994 hκ hso hsc (W_L_law_1483 hκ hso hsc ih) _ _ _ _ h
      replace h := ah_in_ c33_23 h
      by_cases c33_24 : (v1 &&& (63 : Int32)) = (24 : Int32)
      · replace h := ah_ip c33_24 h
        refine ro_tabIn (tgt := 1017) 24 c33_24 dL_law_33 (by decide) (by decide) rfl rfl ?_
        exact W_L_law_1017 hκ hso hsc (W_L_law_1483 hκ hso hsc ih) _ _ _ _ h
      replace h := ah_in_ c33_24 h
      by_cases c33_25 : (v1 &&& (63 : Int32)) = (25 : Int32)
      · replace h := ah_ip c33_25 h
        refine ro_tabIn (tgt := 1040) 25 c33_25 dL_law_33 (by decide) (by decide) rfl rfl ?_
        exact W_L_law_1040 hκ hso hsc (W_L_law_1483 hκ hso hsc ih) _ _ _ _ h
      replace h := ah_in_ c33_25 h
      by_cases c33_26 : (v1 &&& (63 : Int32)) = (26 : Int32)
      · replace h := ah_ip c33_26 h
        refine ro_tabIn (tgt := 1053) 26 c33_26 dL_law_33 (by decide) (by decide) rfl rfl ?_
        exact W_L_law_1053 hκ hso hsc (W_L_law_1483 hκ hso hsc ih) _ _ _ _ h
      replace h := ah_in_ c33_26 h
      by_cases c33_27 : (v1 &&& (63 : Int32)) = (27 : Int32)
      · replace h := ah_ip c33_27 h
        refine ro_tabIn (tgt := 1066) 27 c33_27 dL_law_33 (by decide) (by decide) rfl rfl ?_
        exact W_L_law_1066 hκ hso hsc (W_L_law_1483 hκ hso hsc ih) _ _ _ _ h
      replace h := ah_in_ c33_27 h
      by_cases c33_28 : (v1 &&& (63 : Int32)) = (28 : Int32)
      · replace h := ah_ip c33_28 h
        refine ro_tabIn (tgt := 1079) 28 c33_28 dL_law_33 (by decide) (by decide) rfl rfl ?_
        exact W_L_law_1079 hκ hso hsc (W_L_law_1483 hκ hso hsc ih) _ _ _ _ h
      replace h := ah_in_ c33_28 h
      by_cases c33_29 : (v1 &&& (63 : Int32)) = (29 : Int32)
      · replace h := ah_ip c33_29 h
        refine ro_tabIn (tgt := 1092) 29 c33_29 dL_law_33 (by decide) (by decide) rfl rfl ?_
        exact W_L_law_1092 hκ hso hsc (W_L_law_1483 hκ hso hsc ih) _ _ _ _ h
      replace h := ah_in_ c33_29 h
      by_cases c33_30 : (v1 &&& (63 : Int32)) = (30 : Int32)
      · replace h := ah_ip c33_30 h
        refine ro_tabIn (tgt := 1115) 30 c33_30 dL_law_33 (by decide) (by decide) rfl rfl ?_
        exact W_L_law_1115 hκ hso hsc (W_L_law_1483 hκ hso hsc ih) _ _ _ _ h
      replace h := ah_in_ c33_30 h
      by_cases c33_31 : (v1 &&& (63 : Int32)) = (31 : Int32)
      · replace h := ah_ip c33_31 h
        refine ro_tabIn (tgt := 1158) 31 c33_31 dL_law_33 (by decide) (by decide) rfl rfl ?_
        exact W_L_law_1158 hκ hso hsc (W_L_law_1483 hκ hso hsc ih) _ _ _ _ h
      replace h := ah_in_ c33_31 h
      by_cases c33_32 : (v1 &&& (63 : Int32)) = (32 : Int32)
      · replace h := ah_ip c33_32 h
        refine ro_tabIn (tgt := 1181) 32 c33_32 dL_law_33 (by decide) (by decide) rfl rfl ?_
        exact W_L_law_1181 hκ hso hsc (W_L_law_1483 hκ hso hsc ih) _ _ _ _ h
      replace h := ah_in_ c33_32 h
      by_cases c33_33 : (v1 &&& (63 : Int32)) = (33 : Int32)
      · replace h := ah_ip c33_33 h
        refine ro_tabIn (tgt := 1214) 33 c33_33 dL_law_33 (by decide) (by decide) rfl rfl ?_
        exact W_L_law_1214 hκ hso hsc (W_L_law_1483 hκ hso hsc ih) _ _ _ _ h
      replace h := ah_in_ c33_33 h
      by_cases c33_34 : (v1 &&& (63 : Int32)) = (34 : Int32)
      · replace h := ah_ip c33_34 h
        refine ro_tabIn (tgt := 1257) 34 c33_34 dL_law_33 (by decide) (by decide) rfl rfl ?_
        exact W_L_law_1257 hκ hso hsc (W_L_law_1483 hκ hso hsc ih) _ _ _ _ h
      replace h := ah_in_ c33_34 h
      by_cases c33_35 : (v1 &&& (63 : Int32)) = (35 : Int32)
      · replace h := ah_ip c33_35 h
        refine ro_tabIn (tgt := 1330) 35 c33_35 dL_law_33 (by decide) (by decide) rfl rfl ?_
        exact W_L_law_1330 hκ hso hsc (W_L_law_1483 hκ hso hsc ih) _ _ _ _ h
      replace h := ah_in_ c33_35 h
      by_cases c33_36 : (v1 &&& (63 : Int32)) = (36 : Int32)
      · replace h := ah_ip c33_36 h
        refine ro_tabIn (tgt := 1364) 36 c33_36 dL_law_33 (by decide) (by decide) rfl rfl ?_
        exact W_L_law_1364 hκ hso hsc (W_L_law_1483 hκ hso hsc ih) _ _ _ _ h
      replace h := ah_in_ c33_36 h
      by_cases c33_37 : (v1 &&& (63 : Int32)) = (37 : Int32)
      · replace h := ah_ip c33_37 h
        refine ro_tabIn (tgt := 1427) 37 c33_37 dL_law_33 (by decide) (by decide) rfl rfl ?_
        exact W_L_law_1427 hκ hso hsc (W_L_law_1483 hκ hso hsc ih) _ _ _ _ h
      replace h := ah_in_ c33_37 h
      by_cases c33_38 : (v1 &&& (63 : Int32)) = (38 : Int32)
      · replace h := ah_ip c33_38 h
        refine ro_tabIn (tgt := 1460) 38 c33_38 dL_law_33 (by decide) (by decide) rfl rfl ?_
        exact W_L_law_1460 hκ hso hsc (W_L_law_1483 hκ hso hsc ih) _ _ _ _ h
      replace h := ah_in_ c33_38 h
      refine ro_tabOut (tgt := 1483) dL_law_33 (by have e0 := lv_neT (a := 0) c33_0 (by decide); have e1 := lv_neT (a := 1) c33_1 (by decide); have e2 := lv_neT (a := 2) c33_2 (by decide); have e3 := lv_neT (a := 3) c33_3 (by decide); have e4 := lv_neT (a := 4) c33_4 (by decide); have e5 := lv_neT (a := 5) c33_5 (by decide); have e6 := lv_neT (a := 6) c33_6 (by decide); have e7 := lv_neT (a := 7) c33_7 (by decide); have e8 := lv_neT (a := 8) c33_8 (by decide); have e9 := lv_neT (a := 9) c33_9 (by decide); have e10 := lv_neT (a := 10) c33_10 (by decide); have e11 := lv_neT (a := 11) c33_11 (by decide); have e12 := lv_neT (a := 12) c33_12 (by decide); have e13 := lv_neT (a := 13) c33_13 (by decide); have e14 := lv_neT (a := 14) c33_14 (by decide); have e15 := lv_neT (a := 15) c33_15 (by decide); have e16 := lv_neT (a := 16) c33_16 (by decide); have e17 := lv_neT (a := 17) c33_17 (by decide); have e18 := lv_neT (a := 18) c33_18 (by decide); have e19 := lv_neT (a := 19) c33_19 (by decide); have e20 := lv_neT (a := 20) c33_20 (by decide); have e21 := lv_neT (a := 21) c33_21 (by decide); have e22 := lv_neT (a := 22) c33_22 (by decide); have e23 := lv_neT (a := 23) c33_23 (by decide); have e24 := lv_neT (a := 24) c33_24 (by decide); have e25 := lv_neT (a := 25) c33_25 (by decide); have e26 := lv_neT (a := 26) c33_26 (by decide); have e27 := lv_neT (a := 27) c33_27 (by decide); have e28 := lv_neT (a := 28) c33_28 (by decide); have e29 := lv_neT (a := 29) c33_29 (by decide); have e30 := lv_neT (a := 30) c33_30 (by decide); have e31 := lv_neT (a := 31) c33_31 (by decide); have e32 := lv_neT (a := 32) c33_32 (by decide); have e33 := lv_neT (a := 33) c33_33 (by decide); have e34 := lv_neT (a := 34) c33_34 (by decide); have e35 := lv_neT (a := 35) c33_35 (by decide); have e36 := lv_neT (a := 36) c33_36 (by decide); have e37 := lv_neT (a := 37) c33_37 (by decide); have e38 := lv_neT (a := 38) c33_38 (by decide); omega) rfl ?_
      exact W_L_law_1483 hκ hso hsc ih _ _ _ _ h
set_option maxRecDepth 20000 in
set_option maxHeartbeats 4000000 in
theorem W_L_law {κ : ah_C} {rr : (Int32 × ah_S)} (hκ : ah_res κ = (.returned (some (.int rr.1)), rr.2)) (hso : ah_kso κ) {sb sL : Nat} {sx : Nat → Int32} (hsc : ah_scr κ sb sL sx) (σ : ah_S) (h : F_L_law sL sx σ = some rr) : ah_G κ ("LeftAsFoundLaw", "law", 4, (some FieldType.boolean), [], 2048, 84000) cL_law σ 0 [some (va_rf (some sb)), none, none, none] [] := by
  unfold F_L_law at h
  obtain ⟨σ1, hσ1, h⟩ := ah_bs h
  refine ro_new (pc' := 3) ct_X0 df_X0 (by decide) q130 q131 q95 dL_law_0 rfl hσ1 ?_
  refine ro_dup (pc' := 4) dL_law_3 (ah_rf_cat _) rfl ?_
  obtain ⟨σ2, hσ2, h⟩ := ah_bs h
  refine ro_callIS (pc' := 7) (As := []) (rest := [va_rf (some (ah_nx σ))]) (st' := [va_rf (some (ah_nx σ))]) hso rfl q133 rfl (M_X0_init hσ2) q132 q134 q95 dd_X0_init rfl ⟨Nat.le_of_ble_eq_true rfl, Nat.le_of_ble_eq_true rfl⟩ (by simp only [List.map_cons, List.map_nil, List.sum_cons, List.sum_nil, ah_rf_cat, ah_cat_i, ah_cat_l]; decide) dL_law_4 rfl rfl rfl ?_
  refine ro_astore_n (pc' := 8) (L' := [some (va_rf (some sb)), some (va_rf (some (ah_nx σ))), none, none]) dL_law_7 rfl (Nat.le_of_ble_eq_true rfl) rfl (ah_okp_r _) rfl ?_
  obtain ⟨σ3, hσ3, h⟩ := ah_bs h
  refine ro_new (pc' := 11) ct_X6 df_X6 (by decide) q1303 q1304 q104 dL_law_8 rfl hσ3 ?_
  refine ro_dup (pc' := 12) dL_law_11 (ah_rf_cat _) rfl ?_
  obtain ⟨σ4, hσ4, h⟩ := ah_bs h
  refine ro_callI (pc' := 15) (As := []) (rest := [va_rf (some (ah_nx σ2))]) (st' := [va_rf (some (ah_nx σ2))]) rfl q1306 rfl (M_X6_init hσ4) q1305 q1307 q104 dd_X6_init rfl ⟨Nat.le_of_ble_eq_true rfl, Nat.le_of_ble_eq_true rfl⟩ (by simp only [List.map_cons, List.map_nil, List.sum_cons, List.sum_nil, ah_rf_cat, ah_cat_i, ah_cat_l]; decide) dL_law_12 rfl rfl rfl ?_
  refine ro_astore_n (pc' := 16) (L' := [some (va_rf (some sb)), some (va_rf (some (ah_nx σ))), some (va_rf (some (ah_nx σ2))), none]) dL_law_15 rfl (Nat.le_of_ble_eq_true rfl) rfl (ah_okp_r _) rfl ?_
  refine ro_iconst (pc' := 17) dL_law_16 ic_0 rfl ?_
  refine ro_istore_n (pc' := 18) (L' := [some (va_rf (some sb)), some (va_rf (some (ah_nx σ))), some (va_rf (some (ah_nx σ2))), some (.int (0 : Int32))]) dL_law_17 rfl (Nat.le_of_ble_eq_true rfl) rfl (ah_okp_r _) rfl ?_
  exact W_L_law_18 hκ hso hsc _ _ _ _ _ h
