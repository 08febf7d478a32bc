/-! THE LAW: its loop, call by call (printed by tools/xlaw.py) -/
set_option maxRecDepth 100000
abbrev mL_law : Mt := (x, code, 4, some .boolean)
def sc (n : Nat) (f : Nat → Int32) : AC := .inl (33, n, fun j => .int (f j))
section LAW
variable {s : Sg} {Q : AH → Prop} {m n : Nat} {f : Nat → Int32} {o : OR}
theorem g300 (hg : s.b.g 500 = some (sc n f)) : (hp s).g 500 = some (sc n f) := (hp_gb rfl).trans hg
theorem sc_in {q : Nat} (hm : m + q < n) (hn : n ≤ 384) : vp_in (nI m + nI q) n := vp_in_iff.mpr (by rw [nI_add, nI_t (by omega)]; omega)
theorem sc_0 (hm : m < n) (hn : n ≤ 384) : vp_in (nI m) n := vp_in_iff.mpr (by rw [nI_t (by omega)]; omega)
theorem sc_at {q : Nat} (hm : m + q < n) (hn : n ≤ 384) : (nI m + nI q).toNatClampNeg = m + q := by rw [nI_add]; exact nI_cl (by omega)
theorem lc_house (h : Inv s) (hg : s.b.g 500 = some (sc n f)) (hm : m + 6 ≤ n) (hn : n ≤ 384) (kk : ∀ v, Nxt s v → AX Q 140 mL_law (hp v) 1591 [some (.ref 500), some (.ref 512), some (.ref 625), some (.int (nI m))] [] o) : AX Q 140 mL_law (hp s) 228 [some (.ref 500), some (.ref 512), some (.ref 625), some (.int (nI m))] [] o := by
  obtain ⟨dx, dm, r, t, v, hd, xr, mr, nx, t3⟩ := b_house h (f (m + 1)) (f (m + 2)) (f (m + 3)) (f (m + 4)) (f (m + 5))
  have hs := g300 hg
  refine AX.map (fun _ k_ => AW.aload_n dL_law_228 rfl rfl k_) ?_
  refine AX.map (fun _ k_ => AW.aload_n dL_law_229 rfl rfl k_) ?_
  refine AX.map (fun _ k_ => AW.iload_n dL_law_230 rfl rfl k_) ?_
  refine AX.map (fun _ k_ => AW.iconst (v := 1) dL_law_231 (by decide) rfl k_) ?_
  refine AX.map (fun _ k_ => AW.iadd dL_law_232 rfl k_) ?_
  refine AX.map (fun _ k_ => AW.iald2 dL_law_233 rfl hs (sc_in (q := 1) (by omega) hn) (sc_at (q := 1) (by omega) hn) rfl k_) ?_
  refine AX.map (fun _ k_ => AW.aload_n dL_law_234 rfl rfl k_) ?_
  refine AX.map (fun _ k_ => AW.iload_n dL_law_235 rfl rfl k_) ?_
  refine AX.map (fun _ k_ => AW.iconst (v := 2) dL_law_236 (by decide) rfl k_) ?_
  refine AX.map (fun _ k_ => AW.iadd dL_law_237 rfl k_) ?_
  refine AX.map (fun _ k_ => AW.iald2 dL_law_238 rfl hs (sc_in (q := 2) (by omega) hn) (sc_at (q := 2) (by omega) hn) rfl k_) ?_
  refine AX.map (fun _ k_ => AW.aload_n dL_law_239 rfl rfl k_) ?_
  refine AX.map (fun _ k_ => AW.iload_n dL_law_240 rfl rfl k_) ?_
  refine AX.map (fun _ k_ => AW.iconst (v := 3) dL_law_241 (by decide) rfl k_) ?_
  refine AX.map (fun _ k_ => AW.iadd dL_law_242 rfl k_) ?_
  refine AX.map (fun _ k_ => AW.iald2 dL_law_243 rfl hs (sc_in (q := 3) (by omega) hn) (sc_at (q := 3) (by omega) hn) rfl k_) ?_
  refine AX.map (fun _ k_ => AW.aload_n dL_law_244 rfl rfl k_) ?_
  refine AX.map (fun _ k_ => AW.iload_n dL_law_245 rfl rfl k_) ?_
  refine AX.map (fun _ k_ => AW.iconst (v := 4) dL_law_246 (by decide) rfl k_) ?_
  refine AX.map (fun _ k_ => AW.iadd dL_law_247 rfl k_) ?_
  refine AX.map (fun _ k_ => AW.iald2 dL_law_248 rfl hs (sc_in (q := 4) (by omega) hn) (sc_at (q := 4) (by omega) hn) rfl k_) ?_
  refine AX.map (fun _ k_ => AW.aload_n dL_law_249 rfl rfl k_) ?_
  refine AX.map (fun _ k_ => AW.iload_n dL_law_250 rfl rfl k_) ?_
  refine AX.map (fun _ k_ => AW.iconst (v := 5) dL_law_251 (by decide) rfl k_) ?_
  refine AX.map (fun _ k_ => AW.iadd dL_law_252 rfl k_) ?_
  refine AX.map (fun _ k_ => AW.iald2 dL_law_253 rfl hs (sc_in (q := 5) (by omega) hn) (sc_at (q := 5) (by omega) hn) rfl k_) ?_
  refine AX.map (fun _ k_ => AW.callV (Y := mX0_house) (n := 5) (xr) (by omega) (by decide) rfl gX q267 q268 q269 q138 q270 dL_law_254 (by decide +kernel) rfl rfl (Nat.le_of_ble_eq_true rfl) rfl k_) ?_
  have ht : (hp t).g 500 = some (sc n f) := g300 (t3.trans hg)
  refine AX.map (fun _ k_ => AW.aload_n dL_law_257 rfl rfl k_) ?_
  refine AX.map (fun _ k_ => AW.aload_n dL_law_258 rfl rfl k_) ?_
  refine AX.map (fun _ k_ => AW.iload_n dL_law_259 rfl rfl k_) ?_
  refine AX.map (fun _ k_ => AW.iconst (v := 1) dL_law_260 (by decide) rfl k_) ?_
  refine AX.map (fun _ k_ => AW.iadd dL_law_261 rfl k_) ?_
  refine AX.map (fun _ k_ => AW.iald2 dL_law_262 rfl ht (sc_in (q := 1) (by omega) hn) (sc_at (q := 1) (by omega) hn) rfl k_) ?_
  refine AX.map (fun _ k_ => AW.aload_n dL_law_263 rfl rfl k_) ?_
  refine AX.map (fun _ k_ => AW.iload_n dL_law_264 rfl rfl k_) ?_
  refine AX.map (fun _ k_ => AW.iconst (v := 2) dL_law_265 (by decide) rfl k_) ?_
  refine AX.map (fun _ k_ => AW.iadd dL_law_266 rfl k_) ?_
  refine AX.map (fun _ k_ => AW.iald2 dL_law_267 rfl ht (sc_in (q := 2) (by omega) hn) (sc_at (q := 2) (by omega) hn) rfl k_) ?_
  refine AX.map (fun _ k_ => AW.aload_n dL_law_268 rfl rfl k_) ?_
  refine AX.map (fun _ k_ => AW.iload_n dL_law_269 rfl rfl k_) ?_
  refine AX.map (fun _ k_ => AW.iconst (v := 3) dL_law_270 (by decide) rfl k_) ?_
  refine AX.map (fun _ k_ => AW.iadd dL_law_271 rfl k_) ?_
  refine AX.map (fun _ k_ => AW.iald2 dL_law_272 rfl ht (sc_in (q := 3) (by omega) hn) (sc_at (q := 3) (by omega) hn) rfl k_) ?_
  refine AX.map (fun _ k_ => AW.aload_n dL_law_273 rfl rfl k_) ?_
  refine AX.map (fun _ k_ => AW.iload_n dL_law_274 rfl rfl k_) ?_
  refine AX.map (fun _ k_ => AW.iconst (v := 4) dL_law_275 (by decide) rfl k_) ?_
  refine AX.map (fun _ k_ => AW.iadd dL_law_276 rfl k_) ?_
  refine AX.map (fun _ k_ => AW.iald2 dL_law_277 rfl ht (sc_in (q := 4) (by omega) hn) (sc_at (q := 4) (by omega) hn) rfl k_) ?_
  refine AX.map (fun _ k_ => AW.aload_n dL_law_278 rfl rfl k_) ?_
  refine AX.map (fun _ k_ => AW.iload_n dL_law_279 rfl rfl k_) ?_
  refine AX.map (fun _ k_ => AW.iconst (v := 5) dL_law_280 (by decide) rfl k_) ?_
  refine AX.map (fun _ k_ => AW.iadd dL_law_281 rfl k_) ?_
  refine AX.map (fun _ k_ => AW.iald2 dL_law_282 rfl ht (sc_in (q := 5) (by omega) hn) (sc_at (q := 5) (by omega) hn) rfl k_) ?_
  refine AX.map (fun _ k_ => AW.callV (Y := mX2_house) (n := 5) (mr) (by omega) (by decide) rfl gM q1462 q1463 q1464 q141 q1465 dL_law_283 (by decide +kernel) rfl rfl (Nat.le_of_ble_eq_true rfl) rfl k_) ?_
  refine AX.map (fun _ k_ => AW.icmp_eq (tgt := 1591) dL_law_286 (by decide) rfl (fun _ => k_) (fun c_ => absurd rfl c_)) ?_
  exact kk v nx
theorem lc_feed (h : Inv s) (hg : s.b.g 500 = some (sc n f)) (hm : m + 6 ≤ n) (hn : n ≤ 384) (kk : ∀ v, Nxt s v → AX Q 140 mL_law (hp v) 1591 [some (.ref 500), some (.ref 512), some (.ref 625), some (.int (nI m))] [] o) : AX Q 140 mL_law (hp s) 291 [some (.ref 500), some (.ref 512), some (.ref 625), some (.int (nI m))] [] o := by
  obtain ⟨dx, dm, r, t, v, hd, xr, mr, nx, t3⟩ := b_feed h (f (m + 1)) (f (m + 2)) (f (m + 3)) (f (m + 4)) (f (m + 5))
  have hs := g300 hg
  refine AX.map (fun _ k_ => AW.aload_n dL_law_291 rfl rfl k_) ?_
  refine AX.map (fun _ k_ => AW.aload_n dL_law_292 rfl rfl k_) ?_
  refine AX.map (fun _ k_ => AW.iload_n dL_law_293 rfl rfl k_) ?_
  refine AX.map (fun _ k_ => AW.iconst (v := 1) dL_law_294 (by decide) rfl k_) ?_
  refine AX.map (fun _ k_ => AW.iadd dL_law_295 rfl k_) ?_
  refine AX.map (fun _ k_ => AW.iald2 dL_law_296 rfl hs (sc_in (q := 1) (by omega) hn) (sc_at (q := 1) (by omega) hn) rfl k_) ?_
  refine AX.map (fun _ k_ => AW.aload_n dL_law_297 rfl rfl k_) ?_
  refine AX.map (fun _ k_ => AW.iload_n dL_law_298 rfl rfl k_) ?_
  refine AX.map (fun _ k_ => AW.iconst (v := 2) dL_law_299 (by decide) rfl k_) ?_
  refine AX.map (fun _ k_ => AW.iadd dL_law_300 rfl k_) ?_
  refine AX.map (fun _ k_ => AW.iald2 dL_law_301 rfl hs (sc_in (q := 2) (by omega) hn) (sc_at (q := 2) (by omega) hn) rfl k_) ?_
  refine AX.map (fun _ k_ => AW.aload_n dL_law_302 rfl rfl k_) ?_
  refine AX.map (fun _ k_ => AW.iload_n dL_law_303 rfl rfl k_) ?_
  refine AX.map (fun _ k_ => AW.iconst (v := 3) dL_law_304 (by decide) rfl k_) ?_
  refine AX.map (fun _ k_ => AW.iadd dL_law_305 rfl k_) ?_
  refine AX.map (fun _ k_ => AW.iald2 dL_law_306 rfl hs (sc_in (q := 3) (by omega) hn) (sc_at (q := 3) (by omega) hn) rfl k_) ?_
  refine AX.map (fun _ k_ => AW.aload_n dL_law_307 rfl rfl k_) ?_
  refine AX.map (fun _ k_ => AW.iload_n dL_law_308 rfl rfl k_) ?_
  refine AX.map (fun _ k_ => AW.iconst (v := 4) dL_law_309 (by decide) rfl k_) ?_
  refine AX.map (fun _ k_ => AW.iadd dL_law_310 rfl k_) ?_
  refine AX.map (fun _ k_ => AW.iald2 dL_law_311 rfl hs (sc_in (q := 4) (by omega) hn) (sc_at (q := 4) (by omega) hn) rfl k_) ?_
  refine AX.map (fun _ k_ => AW.aload_n dL_law_312 rfl rfl k_) ?_
  refine AX.map (fun _ k_ => AW.iload_n dL_law_313 rfl rfl k_) ?_
  refine AX.map (fun _ k_ => AW.iconst (v := 5) dL_law_314 (by decide) rfl k_) ?_
  refine AX.map (fun _ k_ => AW.iadd dL_law_315 rfl k_) ?_
  refine AX.map (fun _ k_ => AW.iald2 dL_law_316 rfl hs (sc_in (q := 5) (by omega) hn) (sc_at (q := 5) (by omega) hn) rfl k_) ?_
  refine AX.map (fun _ k_ => AW.callV (Y := mX0_feed) (n := 5) (xr) (by omega) (by decide) rfl gX q281 q282 q283 q138 q284 dL_law_317 (by decide +kernel) rfl rfl (Nat.le_of_ble_eq_true rfl) rfl k_) ?_
  have ht : (hp t).g 500 = some (sc n f) := g300 (t3.trans hg)
  refine AX.map (fun _ k_ => AW.aload_n dL_law_320 rfl rfl k_) ?_
  refine AX.map (fun _ k_ => AW.aload_n dL_law_321 rfl rfl k_) ?_
  refine AX.map (fun _ k_ => AW.iload_n dL_law_322 rfl rfl k_) ?_
  refine AX.map (fun _ k_ => AW.iconst (v := 1) dL_law_323 (by decide) rfl k_) ?_
  refine AX.map (fun _ k_ => AW.iadd dL_law_324 rfl k_) ?_
  refine AX.map (fun _ k_ => AW.iald2 dL_law_325 rfl ht (sc_in (q := 1) (by omega) hn) (sc_at (q := 1) (by omega) hn) rfl k_) ?_
  refine AX.map (fun _ k_ => AW.aload_n dL_law_326 rfl rfl k_) ?_
  refine AX.map (fun _ k_ => AW.iload_n dL_law_327 rfl rfl k_) ?_
  refine AX.map (fun _ k_ => AW.iconst (v := 2) dL_law_328 (by decide) rfl k_) ?_
  refine AX.map (fun _ k_ => AW.iadd dL_law_329 rfl k_) ?_
  refine AX.map (fun _ k_ => AW.iald2 dL_law_330 rfl ht (sc_in (q := 2) (by omega) hn) (sc_at (q := 2) (by omega) hn) rfl k_) ?_
  refine AX.map (fun _ k_ => AW.aload_n dL_law_331 rfl rfl k_) ?_
  refine AX.map (fun _ k_ => AW.iload_n dL_law_332 rfl rfl k_) ?_
  refine AX.map (fun _ k_ => AW.iconst (v := 3) dL_law_333 (by decide) rfl k_) ?_
  refine AX.map (fun _ k_ => AW.iadd dL_law_334 rfl k_) ?_
  refine AX.map (fun _ k_ => AW.iald2 dL_law_335 rfl ht (sc_in (q := 3) (by omega) hn) (sc_at (q := 3) (by omega) hn) rfl k_) ?_
  refine AX.map (fun _ k_ => AW.aload_n dL_law_336 rfl rfl k_) ?_
  refine AX.map (fun _ k_ => AW.iload_n dL_law_337 rfl rfl k_) ?_
  refine AX.map (fun _ k_ => AW.iconst (v := 4) dL_law_338 (by decide) rfl k_) ?_
  refine AX.map (fun _ k_ => AW.iadd dL_law_339 rfl k_) ?_
  refine AX.map (fun _ k_ => AW.iald2 dL_law_340 rfl ht (sc_in (q := 4) (by omega) hn) (sc_at (q := 4) (by omega) hn) rfl k_) ?_
  refine AX.map (fun _ k_ => AW.aload_n dL_law_341 rfl rfl k_) ?_
  refine AX.map (fun _ k_ => AW.iload_n dL_law_342 rfl rfl k_) ?_
  refine AX.map (fun _ k_ => AW.iconst (v := 5) dL_law_343 (by decide) rfl k_) ?_
  refine AX.map (fun _ k_ => AW.iadd dL_law_344 rfl k_) ?_
  refine AX.map (fun _ k_ => AW.iald2 dL_law_345 rfl ht (sc_in (q := 5) (by omega) hn) (sc_at (q := 5) (by omega) hn) rfl k_) ?_
  refine AX.map (fun _ k_ => AW.callV (Y := mX2_feed) (n := 5) (mr) (by omega) (by decide) rfl gM q1481 q1482 q1483 q141 q1484 dL_law_346 (by decide +kernel) rfl rfl (Nat.le_of_ble_eq_true rfl) rfl k_) ?_
  refine AX.map (fun _ k_ => AW.icmp_eq (tgt := 1591) dL_law_349 (by decide) rfl (fun _ => k_) (fun c_ => absurd rfl c_)) ?_
  exact kk v nx
theorem lc_end (h : Inv s) (hg : s.b.g 500 = some (sc n f)) (hm : m + 6 ≤ n) (hn : n ≤ 384) (kk : ∀ v, Nxt s v → AX Q 140 mL_law (hp v) 1591 [some (.ref 500), some (.ref 512), some (.ref 625), some (.int (nI m))] [] o) : AX Q 140 mL_law (hp s) 354 [some (.ref 500), some (.ref 512), some (.ref 625), some (.int (nI m))] [] o := by
  obtain ⟨dx, dm, r, t, v, hd, xr, mr, nx, t3⟩ := b_end h (f (m + 1))
  have hs := g300 hg
  refine AX.map (fun _ k_ => AW.aload_n dL_law_354 rfl rfl k_) ?_
  refine AX.map (fun _ k_ => AW.aload_n dL_law_355 rfl rfl k_) ?_
  refine AX.map (fun _ k_ => AW.iload_n dL_law_356 rfl rfl k_) ?_
  refine AX.map (fun _ k_ => AW.iconst (v := 1) dL_law_357 (by decide) rfl k_) ?_
  refine AX.map (fun _ k_ => AW.iadd dL_law_358 rfl k_) ?_
  refine AX.map (fun _ k_ => AW.iald2 dL_law_359 rfl hs (sc_in (q := 1) (by omega) hn) (sc_at (q := 1) (by omega) hn) rfl k_) ?_
  refine AX.map (fun _ k_ => AW.callV (Y := mX0_end) (n := 1) (xr) (by omega) (by decide) rfl gX q289 q290 q291 q138 q292 dL_law_360 (by decide +kernel) rfl rfl (Nat.le_of_ble_eq_true rfl) rfl k_) ?_
  have ht : (hp t).g 500 = some (sc n f) := g300 (t3.trans hg)
  refine AX.map (fun _ k_ => AW.aload_n dL_law_363 rfl rfl k_) ?_
  refine AX.map (fun _ k_ => AW.aload_n dL_law_364 rfl rfl k_) ?_
  refine AX.map (fun _ k_ => AW.iload_n dL_law_365 rfl rfl k_) ?_
  refine AX.map (fun _ k_ => AW.iconst (v := 1) dL_law_366 (by decide) rfl k_) ?_
  refine AX.map (fun _ k_ => AW.iadd dL_law_367 rfl k_) ?_
  refine AX.map (fun _ k_ => AW.iald2 dL_law_368 rfl ht (sc_in (q := 1) (by omega) hn) (sc_at (q := 1) (by omega) hn) rfl k_) ?_
  refine AX.map (fun _ k_ => AW.callV (Y := mX2_end) (n := 1) (mr) (by omega) (by decide) rfl gM q1489 q1490 q1491 q141 q1492 dL_law_369 (by decide +kernel) rfl rfl (Nat.le_of_ble_eq_true rfl) rfl k_) ?_
  refine AX.map (fun _ k_ => AW.icmp_eq (tgt := 1591) dL_law_372 (by decide) rfl (fun _ => k_) (fun c_ => absurd rfl c_)) ?_
  exact kk v nx
theorem lc_text (h : Inv s) (hg : s.b.g 500 = some (sc n f)) (hm : m + 6 ≤ n) (hn : n ≤ 384) (kk : ∀ v, Nxt s v → AX Q 140 mL_law (hp v) 1591 [some (.ref 500), some (.ref 512), some (.ref 625), some (.int (nI m))] [] o) : AX Q 140 mL_law (hp s) 377 [some (.ref 500), some (.ref 512), some (.ref 625), some (.int (nI m))] [] o := by
  obtain ⟨dx, dm, r, t, v, hd, xr, mr, nx, t3⟩ := b_text h
  have hs := g300 hg
  refine AX.map (fun _ k_ => AW.aload_n dL_law_377 rfl rfl k_) ?_
  refine AX.map (fun _ k_ => AW.callVW (Y := mX0_text) (n := 0) (xr) (by omega) (by decide) rfl gX q293 q294 q295 q138 q296 dL_law_378 (by decide +kernel) rfl rfl (Nat.le_of_ble_eq_true rfl) rfl k_) ?_
  refine AX.map (fun _ k_ => AW.aload_n dL_law_381 rfl rfl k_) ?_
  refine AX.map (fun _ k_ => AW.callV (Y := mX2_text) (n := 0) (mr) (by omega) (by decide) rfl gM q1493 q1494 q1495 q141 q1496 dL_law_382 (by decide +kernel) rfl rfl (Nat.le_of_ble_eq_true rfl) rfl k_) ?_
  refine AX.map (fun _ k_ => AW.icmp_eq (tgt := 1591) dL_law_385 (by decide) rfl (fun _ => k_) (fun c_ => absurd rfl c_)) ?_
  exact kk v nx
theorem lc_fault (h : Inv s) (hg : s.b.g 500 = some (sc n f)) (hm : m + 6 ≤ n) (hn : n ≤ 384) (kk : ∀ v, Nxt s v → AX Q 140 mL_law (hp v) 1591 [some (.ref 500), some (.ref 512), some (.ref 625), some (.int (nI m))] [] o) : AX Q 140 mL_law (hp s) 390 [some (.ref 500), some (.ref 512), some (.ref 625), some (.int (nI m))] [] o := by
  obtain ⟨dx, dm, r, t, v, hd, xr, mr, nx, t3⟩ := b_fault h (f (m + 1))
  have hs := g300 hg
  refine AX.map (fun _ k_ => AW.aload_n dL_law_390 rfl rfl k_) ?_
  refine AX.map (fun _ k_ => AW.aload_n dL_law_391 rfl rfl k_) ?_
  refine AX.map (fun _ k_ => AW.iload_n dL_law_392 rfl rfl k_) ?_
  refine AX.map (fun _ k_ => AW.iconst (v := 1) dL_law_393 (by decide) rfl k_) ?_
  refine AX.map (fun _ k_ => AW.iadd dL_law_394 rfl k_) ?_
  refine AX.map (fun _ k_ => AW.iald2 dL_law_395 rfl hs (sc_in (q := 1) (by omega) hn) (sc_at (q := 1) (by omega) hn) rfl k_) ?_
  refine AX.map (fun _ k_ => AW.callV (Y := mX0_fault) (n := 1) (xr) (by omega) (by decide) rfl gX q834 q835 q836 q138 q837 dL_law_396 (by decide +kernel) rfl rfl (Nat.le_of_ble_eq_true rfl) rfl k_) ?_
  have ht : (hp t).g 500 = some (sc n f) := g300 (t3.trans hg)
  refine AX.map (fun _ k_ => AW.aload_n dL_law_399 rfl rfl k_) ?_
  refine AX.map (fun _ k_ => AW.aload_n dL_law_400 rfl rfl k_) ?_
  refine AX.map (fun _ k_ => AW.iload_n dL_law_401 rfl rfl k_) ?_
  refine AX.map (fun _ k_ => AW.iconst (v := 1) dL_law_402 (by decide) rfl k_) ?_
  refine AX.map (fun _ k_ => AW.iadd dL_law_403 rfl k_) ?_
  refine AX.map (fun _ k_ => AW.iald2 dL_law_404 rfl ht (sc_in (q := 1) (by omega) hn) (sc_at (q := 1) (by omega) hn) rfl k_) ?_
  refine AX.map (fun _ k_ => AW.callV (Y := mX2_fault) (n := 1) (mr) (by omega) (by decide) rfl gM q1633 q1634 q1635 q141 q1636 dL_law_405 (by decide +kernel) rfl rfl (Nat.le_of_ble_eq_true rfl) rfl k_) ?_
  refine AX.map (fun _ k_ => AW.icmp_eq (tgt := 1591) dL_law_408 (by decide) rfl (fun _ => k_) (fun c_ => absurd rfl c_)) ?_
  exact kk v nx
theorem lc_by (h : Inv s) (hg : s.b.g 500 = some (sc n f)) (hm : m + 6 ≤ n) (hn : n ≤ 384) (kk : ∀ v, Nxt s v → AX Q 140 mL_law (hp v) 1591 [some (.ref 500), some (.ref 512), some (.ref 625), some (.int (nI m))] [] o) : AX Q 140 mL_law (hp s) 413 [some (.ref 500), some (.ref 512), some (.ref 625), some (.int (nI m))] [] o := by
  obtain ⟨dx, dm, r, t, v, hd, xr, mr, nx, t3⟩ := b_by h (f (m + 1))
  have hs := g300 hg
  refine AX.map (fun _ k_ => AW.aload_n dL_law_413 rfl rfl k_) ?_
  refine AX.map (fun _ k_ => AW.aload_n dL_law_414 rfl rfl k_) ?_
  refine AX.map (fun _ k_ => AW.iload_n dL_law_415 rfl rfl k_) ?_
  refine AX.map (fun _ k_ => AW.iconst (v := 1) dL_law_416 (by decide) rfl k_) ?_
  refine AX.map (fun _ k_ => AW.iadd dL_law_417 rfl k_) ?_
  refine AX.map (fun _ k_ => AW.iald2 dL_law_418 rfl hs (sc_in (q := 1) (by omega) hn) (sc_at (q := 1) (by omega) hn) rfl k_) ?_
  refine AX.map (fun _ k_ => AW.callV (Y := mX0_by) (n := 1) (xr) (by omega) (by decide) rfl gX q838 q839 q840 q138 q841 dL_law_419 (by decide +kernel) rfl rfl (Nat.le_of_ble_eq_true rfl) rfl k_) ?_
  have ht : (hp t).g 500 = some (sc n f) := g300 (t3.trans hg)
  refine AX.map (fun _ k_ => AW.aload_n dL_law_422 rfl rfl k_) ?_
  refine AX.map (fun _ k_ => AW.aload_n dL_law_423 rfl rfl k_) ?_
  refine AX.map (fun _ k_ => AW.iload_n dL_law_424 rfl rfl k_) ?_
  refine AX.map (fun _ k_ => AW.iconst (v := 1) dL_law_425 (by decide) rfl k_) ?_
  refine AX.map (fun _ k_ => AW.iadd dL_law_426 rfl k_) ?_
  refine AX.map (fun _ k_ => AW.iald2 dL_law_427 rfl ht (sc_in (q := 1) (by omega) hn) (sc_at (q := 1) (by omega) hn) rfl k_) ?_
  refine AX.map (fun _ k_ => AW.callV (Y := mX2_by) (n := 1) (mr) (by omega) (by decide) rfl gM q1637 q1638 q1639 q141 q1640 dL_law_428 (by decide +kernel) rfl rfl (Nat.le_of_ble_eq_true rfl) rfl k_) ?_
  refine AX.map (fun _ k_ => AW.icmp_eq (tgt := 1591) dL_law_431 (by decide) rfl (fun _ => k_) (fun c_ => absurd rfl c_)) ?_
  exact kk v nx
theorem lc_knock (h : Inv s) (hg : s.b.g 500 = some (sc n f)) (hm : m + 6 ≤ n) (hn : n ≤ 384) (kk : ∀ v, Nxt s v → AX Q 140 mL_law (hp v) 1591 [some (.ref 500), some (.ref 512), some (.ref 625), some (.int (nI m))] [] o) : AX Q 140 mL_law (hp s) 436 [some (.ref 500), some (.ref 512), some (.ref 625), some (.int (nI m))] [] o := by
  obtain ⟨dx, dm, r, t, v, hd, xr, mr, nx, t3⟩ := b_knock h (f (m + 1))
  have hs := g300 hg
  refine AX.map (fun _ k_ => AW.aload_n dL_law_436 rfl rfl k_) ?_
  refine AX.map (fun _ k_ => AW.aload_n dL_law_437 rfl rfl k_) ?_
  refine AX.map (fun _ k_ => AW.iload_n dL_law_438 rfl rfl k_) ?_
  refine AX.map (fun _ k_ => AW.iconst (v := 1) dL_law_439 (by decide) rfl k_) ?_
  refine AX.map (fun _ k_ => AW.iadd dL_law_440 rfl k_) ?_
  refine AX.map (fun _ k_ => AW.iald2 dL_law_441 rfl hs (sc_in (q := 1) (by omega) hn) (sc_at (q := 1) (by omega) hn) rfl k_) ?_
  refine AX.map (fun _ k_ => AW.callV (Y := mX0_knock) (n := 1) (xr) (by omega) (by decide) rfl gX q976 q977 q978 q138 q979 dL_law_442 (by decide +kernel) rfl rfl (Nat.le_of_ble_eq_true rfl) rfl k_) ?_
  have ht : (hp t).g 500 = some (sc n f) := g300 (t3.trans hg)
  refine AX.map (fun _ k_ => AW.aload_n dL_law_445 rfl rfl k_) ?_
  refine AX.map (fun _ k_ => AW.aload_n dL_law_446 rfl rfl k_) ?_
  refine AX.map (fun _ k_ => AW.iload_n dL_law_447 rfl rfl k_) ?_
  refine AX.map (fun _ k_ => AW.iconst (v := 1) dL_law_448 (by decide) rfl k_) ?_
  refine AX.map (fun _ k_ => AW.iadd dL_law_449 rfl k_) ?_
  refine AX.map (fun _ k_ => AW.iald2 dL_law_450 rfl ht (sc_in (q := 1) (by omega) hn) (sc_at (q := 1) (by omega) hn) rfl k_) ?_
  refine AX.map (fun _ k_ => AW.callV (Y := mX2_knock) (n := 1) (mr) (by omega) (by decide) rfl gM q1645 q1646 q1647 q141 q1648 dL_law_451 (by decide +kernel) rfl rfl (Nat.le_of_ble_eq_true rfl) rfl k_) ?_
  refine AX.map (fun _ k_ => AW.icmp_eq (tgt := 1591) dL_law_454 (by decide) rfl (fun _ => k_) (fun c_ => absurd rfl c_)) ?_
  exact kk v nx
theorem lc_marry (h : Inv s) (hg : s.b.g 500 = some (sc n f)) (hm : m + 6 ≤ n) (hn : n ≤ 384) (kk : ∀ v, Nxt s v → AX Q 140 mL_law (hp v) 1591 [some (.ref 500), some (.ref 512), some (.ref 625), some (.int (nI m))] [] o) : AX Q 140 mL_law (hp s) 459 [some (.ref 500), some (.ref 512), some (.ref 625), some (.int (nI m))] [] o := by
  obtain ⟨dx, dm, r, t, v, hd, xr, mr, nx, t3⟩ := b_marry h (f (m + 1)) (f (m + 2))
  have hs := g300 hg
  refine AX.map (fun _ k_ => AW.aload_n dL_law_459 rfl rfl k_) ?_
  refine AX.map (fun _ k_ => AW.aload_n dL_law_460 rfl rfl k_) ?_
  refine AX.map (fun _ k_ => AW.iload_n dL_law_461 rfl rfl k_) ?_
  refine AX.map (fun _ k_ => AW.iconst (v := 1) dL_law_462 (by decide) rfl k_) ?_
  refine AX.map (fun _ k_ => AW.iadd dL_law_463 rfl k_) ?_
  refine AX.map (fun _ k_ => AW.iald2 dL_law_464 rfl hs (sc_in (q := 1) (by omega) hn) (sc_at (q := 1) (by omega) hn) rfl k_) ?_
  refine AX.map (fun _ k_ => AW.aload_n dL_law_465 rfl rfl k_) ?_
  refine AX.map (fun _ k_ => AW.iload_n dL_law_466 rfl rfl k_) ?_
  refine AX.map (fun _ k_ => AW.iconst (v := 2) dL_law_467 (by decide) rfl k_) ?_
  refine AX.map (fun _ k_ => AW.iadd dL_law_468 rfl k_) ?_
  refine AX.map (fun _ k_ => AW.iald2 dL_law_469 rfl hs (sc_in (q := 2) (by omega) hn) (sc_at (q := 2) (by omega) hn) rfl k_) ?_
  refine AX.map (fun _ k_ => AW.callV (Y := mX0_marry) (n := 2) (xr) (by omega) (by decide) rfl gX q1032 q1033 q1034 q138 q1035 dL_law_470 (by decide +kernel) rfl rfl (Nat.le_of_ble_eq_true rfl) rfl k_) ?_
  have ht : (hp t).g 500 = some (sc n f) := g300 (t3.trans hg)
  refine AX.map (fun _ k_ => AW.aload_n dL_law_473 rfl rfl k_) ?_
  refine AX.map (fun _ k_ => AW.aload_n dL_law_474 rfl rfl k_) ?_
  refine AX.map (fun _ k_ => AW.iload_n dL_law_475 rfl rfl k_) ?_
  refine AX.map (fun _ k_ => AW.iconst (v := 1) dL_law_476 (by decide) rfl k_) ?_
  refine AX.map (fun _ k_ => AW.iadd dL_law_477 rfl k_) ?_
  refine AX.map (fun _ k_ => AW.iald2 dL_law_478 rfl ht (sc_in (q := 1) (by omega) hn) (sc_at (q := 1) (by omega) hn) rfl k_) ?_
  refine AX.map (fun _ k_ => AW.aload_n dL_law_479 rfl rfl k_) ?_
  refine AX.map (fun _ k_ => AW.iload_n dL_law_480 rfl rfl k_) ?_
  refine AX.map (fun _ k_ => AW.iconst (v := 2) dL_law_481 (by decide) rfl k_) ?_
  refine AX.map (fun _ k_ => AW.iadd dL_law_482 rfl k_) ?_
  refine AX.map (fun _ k_ => AW.iald2 dL_law_483 rfl ht (sc_in (q := 2) (by omega) hn) (sc_at (q := 2) (by omega) hn) rfl k_) ?_
  refine AX.map (fun _ k_ => AW.callV (Y := mX2_marry) (n := 2) (mr) (by omega) (by decide) rfl gM q1729 q1730 q1731 q141 q1732 dL_law_484 (by decide +kernel) rfl rfl (Nat.le_of_ble_eq_true rfl) rfl k_) ?_
  refine AX.map (fun _ k_ => AW.icmp_eq (tgt := 1591) dL_law_487 (by decide) rfl (fun _ => k_) (fun c_ => absurd rfl c_)) ?_
  exact kk v nx
theorem lc_hat (h : Inv s) (hg : s.b.g 500 = some (sc n f)) (hm : m + 6 ≤ n) (hn : n ≤ 384) (kk : ∀ v, Nxt s v → AX Q 140 mL_law (hp v) 1591 [some (.ref 500), some (.ref 512), some (.ref 625), some (.int (nI m))] [] o) : AX Q 140 mL_law (hp s) 492 [some (.ref 500), some (.ref 512), some (.ref 625), some (.int (nI m))] [] o := by
  obtain ⟨dx, dm, r, t, v, hd, xr, mr, nx, t3⟩ := b_hat h (f (m + 1))
  have hs := g300 hg
  refine AX.map (fun _ k_ => AW.aload_n dL_law_492 rfl rfl k_) ?_
  refine AX.map (fun _ k_ => AW.aload_n dL_law_493 rfl rfl k_) ?_
  refine AX.map (fun _ k_ => AW.iload_n dL_law_494 rfl rfl k_) ?_
  refine AX.map (fun _ k_ => AW.iconst (v := 1) dL_law_495 (by decide) rfl k_) ?_
  refine AX.map (fun _ k_ => AW.iadd dL_law_496 rfl k_) ?_
  refine AX.map (fun _ k_ => AW.iald2 dL_law_497 rfl hs (sc_in (q := 1) (by omega) hn) (sc_at (q := 1) (by omega) hn) rfl k_) ?_
  refine AX.map (fun _ k_ => AW.callV (Y := mX0_hat) (n := 1) (xr) (by omega) (by decide) rfl gX q1040 q1041 q1042 q138 q1043 dL_law_498 (by decide +kernel) rfl rfl (Nat.le_of_ble_eq_true rfl) rfl k_) ?_
  have ht : (hp t).g 500 = some (sc n f) := g300 (t3.trans hg)
  refine AX.map (fun _ k_ => AW.aload_n dL_law_501 rfl rfl k_) ?_
  refine AX.map (fun _ k_ => AW.aload_n dL_law_502 rfl rfl k_) ?_
  refine AX.map (fun _ k_ => AW.iload_n dL_law_503 rfl rfl k_) ?_
  refine AX.map (fun _ k_ => AW.iconst (v := 1) dL_law_504 (by decide) rfl k_) ?_
  refine AX.map (fun _ k_ => AW.iadd dL_law_505 rfl k_) ?_
  refine AX.map (fun _ k_ => AW.iald2 dL_law_506 rfl ht (sc_in (q := 1) (by omega) hn) (sc_at (q := 1) (by omega) hn) rfl k_) ?_
  refine AX.map (fun _ k_ => AW.callV (Y := mX2_hat) (n := 1) (mr) (by omega) (by decide) rfl gM q1733 q1734 q1735 q141 q1736 dL_law_507 (by decide +kernel) rfl rfl (Nat.le_of_ble_eq_true rfl) rfl k_) ?_
  refine AX.map (fun _ k_ => AW.icmp_eq (tgt := 1591) dL_law_510 (by decide) rfl (fun _ => k_) (fun c_ => absurd rfl c_)) ?_
  exact kk v nx
theorem lc_forget (h : Inv s) (hg : s.b.g 500 = some (sc n f)) (hm : m + 6 ≤ n) (hn : n ≤ 384) (kk : ∀ v, Nxt s v → AX Q 140 mL_law (hp v) 1591 [some (.ref 500), some (.ref 512), some (.ref 625), some (.int (nI m))] [] o) : AX Q 140 mL_law (hp s) 515 [some (.ref 500), some (.ref 512), some (.ref 625), some (.int (nI m))] [] o := by
  obtain ⟨dx, dm, r, t, v, hd, xr, mr, nx, t3⟩ := b_forget h (f (m + 1)) (f (m + 2))
  have hs := g300 hg
  refine AX.map (fun _ k_ => AW.aload_n dL_law_515 rfl rfl k_) ?_
  refine AX.map (fun _ k_ => AW.aload_n dL_law_516 rfl rfl k_) ?_
  refine AX.map (fun _ k_ => AW.iload_n dL_law_517 rfl rfl k_) ?_
  refine AX.map (fun _ k_ => AW.iconst (v := 1) dL_law_518 (by decide) rfl k_) ?_
  refine AX.map (fun _ k_ => AW.iadd dL_law_519 rfl k_) ?_
  refine AX.map (fun _ k_ => AW.iald2 dL_law_520 rfl hs (sc_in (q := 1) (by omega) hn) (sc_at (q := 1) (by omega) hn) rfl k_) ?_
  refine AX.map (fun _ k_ => AW.aload_n dL_law_521 rfl rfl k_) ?_
  refine AX.map (fun _ k_ => AW.iload_n dL_law_522 rfl rfl k_) ?_
  refine AX.map (fun _ k_ => AW.iconst (v := 2) dL_law_523 (by decide) rfl k_) ?_
  refine AX.map (fun _ k_ => AW.iadd dL_law_524 rfl k_) ?_
  refine AX.map (fun _ k_ => AW.iald2 dL_law_525 rfl hs (sc_in (q := 2) (by omega) hn) (sc_at (q := 2) (by omega) hn) rfl k_) ?_
  refine AX.map (fun _ k_ => AW.callV (Y := mX0_forget) (n := 2) (xr) (by omega) (by decide) rfl gX q1056 q1057 q1058 q138 q1059 dL_law_526 (by decide +kernel) rfl rfl (Nat.le_of_ble_eq_true rfl) rfl k_) ?_
  have ht : (hp t).g 500 = some (sc n f) := g300 (t3.trans hg)
  refine AX.map (fun _ k_ => AW.aload_n dL_law_529 rfl rfl k_) ?_
  refine AX.map (fun _ k_ => AW.aload_n dL_law_530 rfl rfl k_) ?_
  refine AX.map (fun _ k_ => AW.iload_n dL_law_531 rfl rfl k_) ?_
  refine AX.map (fun _ k_ => AW.iconst (v := 1) dL_law_532 (by decide) rfl k_) ?_
  refine AX.map (fun _ k_ => AW.iadd dL_law_533 rfl k_) ?_
  refine AX.map (fun _ k_ => AW.iald2 dL_law_534 rfl ht (sc_in (q := 1) (by omega) hn) (sc_at (q := 1) (by omega) hn) rfl k_) ?_
  refine AX.map (fun _ k_ => AW.aload_n dL_law_535 rfl rfl k_) ?_
  refine AX.map (fun _ k_ => AW.iload_n dL_law_536 rfl rfl k_) ?_
  refine AX.map (fun _ k_ => AW.iconst (v := 2) dL_law_537 (by decide) rfl k_) ?_
  refine AX.map (fun _ k_ => AW.iadd dL_law_538 rfl k_) ?_
  refine AX.map (fun _ k_ => AW.iald2 dL_law_539 rfl ht (sc_in (q := 2) (by omega) hn) (sc_at (q := 2) (by omega) hn) rfl k_) ?_
  refine AX.map (fun _ k_ => AW.callV (Y := mX2_forget) (n := 2) (mr) (by omega) (by decide) rfl gM q1752 q1753 q1754 q141 q1755 dL_law_540 (by decide +kernel) rfl rfl (Nat.le_of_ble_eq_true rfl) rfl k_) ?_
  refine AX.map (fun _ k_ => AW.icmp_eq (tgt := 1591) dL_law_543 (by decide) rfl (fun _ => k_) (fun c_ => absurd rfl c_)) ?_
  exact kk v nx
theorem lc_day (h : Inv s) (hg : s.b.g 500 = some (sc n f)) (hm : m + 6 ≤ n) (hn : n ≤ 384) (kk : ∀ v, Nxt s v → AX Q 140 mL_law (hp v) 1591 [some (.ref 500), some (.ref 512), some (.ref 625), some (.int (nI m))] [] o) : AX Q 140 mL_law (hp s) 548 [some (.ref 500), some (.ref 512), some (.ref 625), some (.int (nI m))] [] o := by
  obtain ⟨dx, dm, r, t, v, hd, xr, mr, nx, t3⟩ := b_day h (f (m + 1))
  have hs := g300 hg
  refine AX.map (fun _ k_ => AW.aload_n dL_law_548 rfl rfl k_) ?_
  refine AX.map (fun _ k_ => AW.aload_n dL_law_549 rfl rfl k_) ?_
  refine AX.map (fun _ k_ => AW.iload_n dL_law_550 rfl rfl k_) ?_
  refine AX.map (fun _ k_ => AW.iconst (v := 1) dL_law_551 (by decide) rfl k_) ?_
  refine AX.map (fun _ k_ => AW.iadd dL_law_552 rfl k_) ?_
  refine AX.map (fun _ k_ => AW.iald2 dL_law_553 rfl hs (sc_in (q := 1) (by omega) hn) (sc_at (q := 1) (by omega) hn) rfl k_) ?_
  refine AX.map (fun _ k_ => AW.callV (Y := mX0_day) (n := 1) (xr) (by omega) (by decide) rfl gX q846 q847 q848 q138 q849 dL_law_554 (by decide +kernel) rfl rfl (Nat.le_of_ble_eq_true rfl) rfl k_) ?_
  have ht : (hp t).g 500 = some (sc n f) := g300 (t3.trans hg)
  refine AX.map (fun _ k_ => AW.aload_n dL_law_557 rfl rfl k_) ?_
  refine AX.map (fun _ k_ => AW.aload_n dL_law_558 rfl rfl k_) ?_
  refine AX.map (fun _ k_ => AW.iload_n dL_law_559 rfl rfl k_) ?_
  refine AX.map (fun _ k_ => AW.iconst (v := 1) dL_law_560 (by decide) rfl k_) ?_
  refine AX.map (fun _ k_ => AW.iadd dL_law_561 rfl k_) ?_
  refine AX.map (fun _ k_ => AW.iald2 dL_law_562 rfl ht (sc_in (q := 1) (by omega) hn) (sc_at (q := 1) (by omega) hn) rfl k_) ?_
  refine AX.map (fun _ k_ => AW.callV (Y := mX2_day) (n := 1) (mr) (by omega) (by decide) rfl gM q1764 q1765 q1766 q141 q1767 dL_law_563 (by decide +kernel) rfl rfl (Nat.le_of_ble_eq_true rfl) rfl k_) ?_
  refine AX.map (fun _ k_ => AW.icmp_eq (tgt := 1591) dL_law_566 (by decide) rfl (fun _ => k_) (fun c_ => absurd rfl c_)) ?_
  exact kk v nx
theorem lc_played (h : Inv s) (hg : s.b.g 500 = some (sc n f)) (hm : m + 6 ≤ n) (hn : n ≤ 384) (kk : ∀ v, Nxt s v → AX Q 140 mL_law (hp v) 1591 [some (.ref 500), some (.ref 512), some (.ref 625), some (.int (nI m))] [] o) : AX Q 140 mL_law (hp s) 571 [some (.ref 500), some (.ref 512), some (.ref 625), some (.int (nI m))] [] o := by
  obtain ⟨dx, dm, r, t, v, hd, xr, mr, nx, t3⟩ := b_played h (f (m + 1))
  have hs := g300 hg
  refine AX.map (fun _ k_ => AW.aload_n dL_law_571 rfl rfl k_) ?_
  refine AX.map (fun _ k_ => AW.aload_n dL_law_572 rfl rfl k_) ?_
  refine AX.map (fun _ k_ => AW.iload_n dL_law_573 rfl rfl k_) ?_
  refine AX.map (fun _ k_ => AW.iconst (v := 1) dL_law_574 (by decide) rfl k_) ?_
  refine AX.map (fun _ k_ => AW.iadd dL_law_575 rfl k_) ?_
  refine AX.map (fun _ k_ => AW.iald2 dL_law_576 rfl hs (sc_in (q := 1) (by omega) hn) (sc_at (q := 1) (by omega) hn) rfl k_) ?_
  refine AX.map (fun _ k_ => AW.callV (Y := mX0_played) (n := 1) (xr) (by omega) (by decide) rfl gX q1067 q1068 q1069 q138 q1070 dL_law_577 (by decide +kernel) rfl rfl (Nat.le_of_ble_eq_true rfl) rfl k_) ?_
  have ht : (hp t).g 500 = some (sc n f) := g300 (t3.trans hg)
  refine AX.map (fun _ k_ => AW.aload_n dL_law_580 rfl rfl k_) ?_
  refine AX.map (fun _ k_ => AW.aload_n dL_law_581 rfl rfl k_) ?_
  refine AX.map (fun _ k_ => AW.iload_n dL_law_582 rfl rfl k_) ?_
  refine AX.map (fun _ k_ => AW.iconst (v := 1) dL_law_583 (by decide) rfl k_) ?_
  refine AX.map (fun _ k_ => AW.iadd dL_law_584 rfl k_) ?_
  refine AX.map (fun _ k_ => AW.iald2 dL_law_585 rfl ht (sc_in (q := 1) (by omega) hn) (sc_at (q := 1) (by omega) hn) rfl k_) ?_
  refine AX.map (fun _ k_ => AW.callV (Y := mX2_played) (n := 1) (mr) (by omega) (by decide) rfl gM q1788 q1789 q1790 q141 q1791 dL_law_586 (by decide +kernel) rfl rfl (Nat.le_of_ble_eq_true rfl) rfl k_) ?_
  refine AX.map (fun _ k_ => AW.icmp_eq (tgt := 1591) dL_law_589 (by decide) rfl (fun _ => k_) (fun c_ => absurd rfl c_)) ?_
  exact kk v nx
theorem lc_years (h : Inv s) (hg : s.b.g 500 = some (sc n f)) (hm : m + 6 ≤ n) (hn : n ≤ 384) (kk : ∀ v, Nxt s v → AX Q 140 mL_law (hp v) 1591 [some (.ref 500), some (.ref 512), some (.ref 625), some (.int (nI m))] [] o) : AX Q 140 mL_law (hp s) 594 [some (.ref 500), some (.ref 512), some (.ref 625), some (.int (nI m))] [] o := by
  obtain ⟨dx, dm, r, t, v, hd, xr, mr, nx, t3⟩ := b_years h (f (m + 1)) (f (m + 2))
  have hs := g300 hg
  refine AX.map (fun _ k_ => AW.aload_n dL_law_594 rfl rfl k_) ?_
  refine AX.map (fun _ k_ => AW.aload_n dL_law_595 rfl rfl k_) ?_
  refine AX.map (fun _ k_ => AW.iload_n dL_law_596 rfl rfl k_) ?_
  refine AX.map (fun _ k_ => AW.iconst (v := 1) dL_law_597 (by decide) rfl k_) ?_
  refine AX.map (fun _ k_ => AW.iadd dL_law_598 rfl k_) ?_
  refine AX.map (fun _ k_ => AW.iald2 dL_law_599 rfl hs (sc_in (q := 1) (by omega) hn) (sc_at (q := 1) (by omega) hn) rfl k_) ?_
  refine AX.map (fun _ k_ => AW.aload_n dL_law_600 rfl rfl k_) ?_
  refine AX.map (fun _ k_ => AW.iload_n dL_law_601 rfl rfl k_) ?_
  refine AX.map (fun _ k_ => AW.iconst (v := 2) dL_law_602 (by decide) rfl k_) ?_
  refine AX.map (fun _ k_ => AW.iadd dL_law_603 rfl k_) ?_
  refine AX.map (fun _ k_ => AW.iald2 dL_law_604 rfl hs (sc_in (q := 2) (by omega) hn) (sc_at (q := 2) (by omega) hn) rfl k_) ?_
  refine AX.map (fun _ k_ => AW.callV (Y := mX0_years) (n := 2) (xr) (by omega) (by decide) rfl gX q1112 q1113 q1114 q138 q1115 dL_law_605 (by decide +kernel) rfl rfl (Nat.le_of_ble_eq_true rfl) rfl k_) ?_
  have ht : (hp t).g 500 = some (sc n f) := g300 (t3.trans hg)
  refine AX.map (fun _ k_ => AW.aload_n dL_law_608 rfl rfl k_) ?_
  refine AX.map (fun _ k_ => AW.aload_n dL_law_609 rfl rfl k_) ?_
  refine AX.map (fun _ k_ => AW.iload_n dL_law_610 rfl rfl k_) ?_
  refine AX.map (fun _ k_ => AW.iconst (v := 1) dL_law_611 (by decide) rfl k_) ?_
  refine AX.map (fun _ k_ => AW.iadd dL_law_612 rfl k_) ?_
  refine AX.map (fun _ k_ => AW.iald2 dL_law_613 rfl ht (sc_in (q := 1) (by omega) hn) (sc_at (q := 1) (by omega) hn) rfl k_) ?_
  refine AX.map (fun _ k_ => AW.aload_n dL_law_614 rfl rfl k_) ?_
  refine AX.map (fun _ k_ => AW.iload_n dL_law_615 rfl rfl k_) ?_
  refine AX.map (fun _ k_ => AW.iconst (v := 2) dL_law_616 (by decide) rfl k_) ?_
  refine AX.map (fun _ k_ => AW.iadd dL_law_617 rfl k_) ?_
  refine AX.map (fun _ k_ => AW.iald2 dL_law_618 rfl ht (sc_in (q := 2) (by omega) hn) (sc_at (q := 2) (by omega) hn) rfl k_) ?_
  refine AX.map (fun _ k_ => AW.callV (Y := mX2_years) (n := 2) (mr) (by omega) (by decide) rfl gM q1801 q1802 q1803 q141 q1804 dL_law_619 (by decide +kernel) rfl rfl (Nat.le_of_ble_eq_true rfl) rfl k_) ?_
  refine AX.map (fun _ k_ => AW.icmp_eq (tgt := 1591) dL_law_622 (by decide) rfl (fun _ => k_) (fun c_ => absurd rfl c_)) ?_
  exact kk v nx
theorem lc_undo (h : Inv s) (hg : s.b.g 500 = some (sc n f)) (hm : m + 6 ≤ n) (hn : n ≤ 384) (kk : ∀ v, Nxt s v → AX Q 140 mL_law (hp v) 1591 [some (.ref 500), some (.ref 512), some (.ref 625), some (.int (nI m))] [] o) : AX Q 140 mL_law (hp s) 627 [some (.ref 500), some (.ref 512), some (.ref 625), some (.int (nI m))] [] o := by
  obtain ⟨dx, dm, r, t, v, hd, xr, mr, nx, t3⟩ := b_undo h
  have hs := g300 hg
  refine AX.map (fun _ k_ => AW.aload_n dL_law_627 rfl rfl k_) ?_
  refine AX.map (fun _ k_ => AW.callV (Y := mX0_undo) (n := 0) (xr) (by omega) (by decide) rfl gX q1120 q1121 q1122 q138 q1123 dL_law_628 (by decide +kernel) rfl rfl (Nat.le_of_ble_eq_true rfl) rfl k_) ?_
  refine AX.map (fun _ k_ => AW.aload_n dL_law_631 rfl rfl k_) ?_
  refine AX.map (fun _ k_ => AW.callV (Y := mX2_undo) (n := 0) (mr) (by omega) (by decide) rfl gM q1641 q1642 q1643 q141 q1644 dL_law_632 (by decide +kernel) rfl rfl (Nat.le_of_ble_eq_true rfl) rfl k_) ?_
  refine AX.map (fun _ k_ => AW.icmp_eq (tgt := 1591) dL_law_635 (by decide) rfl (fun _ => k_) (fun c_ => absurd rfl c_)) ?_
  exact kk v nx
theorem lc_of (h : Inv s) (hg : s.b.g 500 = some (sc n f)) (hm : m + 6 ≤ n) (hn : n ≤ 384) (kk : ∀ v, Nxt s v → AX Q 140 mL_law (hp v) 1591 [some (.ref 500), some (.ref 512), some (.ref 625), some (.int (nI m))] [] o) : AX Q 140 mL_law (hp s) 640 [some (.ref 500), some (.ref 512), some (.ref 625), some (.int (nI m))] [] o := by
  obtain ⟨dx, dm, r, t, v, hd, xr, mr, nx, t3⟩ := b_of h (f (m + 1)) (f (m + 2))
  have hs := g300 hg
  refine AX.map (fun _ k_ => AW.aload_n dL_law_640 rfl rfl k_) ?_
  refine AX.map (fun _ k_ => AW.aload_n dL_law_641 rfl rfl k_) ?_
  refine AX.map (fun _ k_ => AW.iload_n dL_law_642 rfl rfl k_) ?_
  refine AX.map (fun _ k_ => AW.iconst (v := 1) dL_law_643 (by decide) rfl k_) ?_
  refine AX.map (fun _ k_ => AW.iadd dL_law_644 rfl k_) ?_
  refine AX.map (fun _ k_ => AW.iald2 dL_law_645 rfl hs (sc_in (q := 1) (by omega) hn) (sc_at (q := 1) (by omega) hn) rfl k_) ?_
  refine AX.map (fun _ k_ => AW.aload_n dL_law_646 rfl rfl k_) ?_
  refine AX.map (fun _ k_ => AW.iload_n dL_law_647 rfl rfl k_) ?_
  refine AX.map (fun _ k_ => AW.iconst (v := 2) dL_law_648 (by decide) rfl k_) ?_
  refine AX.map (fun _ k_ => AW.iadd dL_law_649 rfl k_) ?_
  refine AX.map (fun _ k_ => AW.iald2 dL_law_650 rfl hs (sc_in (q := 2) (by omega) hn) (sc_at (q := 2) (by omega) hn) rfl k_) ?_
  refine AX.map (fun _ k_ => AW.callV (Y := mX0_of) (n := 2) (xr) (by omega) (by decide) rfl gX q1125 q1126 q1127 q138 q1128 dL_law_651 (by decide +kernel) rfl rfl (Nat.le_of_ble_eq_true rfl) rfl k_) ?_
  have ht : (hp t).g 500 = some (sc n f) := g300 (t3.trans hg)
  refine AX.map (fun _ k_ => AW.aload_n dL_law_654 rfl rfl k_) ?_
  refine AX.map (fun _ k_ => AW.aload_n dL_law_655 rfl rfl k_) ?_
  refine AX.map (fun _ k_ => AW.iload_n dL_law_656 rfl rfl k_) ?_
  refine AX.map (fun _ k_ => AW.iconst (v := 1) dL_law_657 (by decide) rfl k_) ?_
  refine AX.map (fun _ k_ => AW.iadd dL_law_658 rfl k_) ?_
  refine AX.map (fun _ k_ => AW.iald2 dL_law_659 rfl ht (sc_in (q := 1) (by omega) hn) (sc_at (q := 1) (by omega) hn) rfl k_) ?_
  refine AX.map (fun _ k_ => AW.aload_n dL_law_660 rfl rfl k_) ?_
  refine AX.map (fun _ k_ => AW.iload_n dL_law_661 rfl rfl k_) ?_
  refine AX.map (fun _ k_ => AW.iconst (v := 2) dL_law_662 (by decide) rfl k_) ?_
  refine AX.map (fun _ k_ => AW.iadd dL_law_663 rfl k_) ?_
  refine AX.map (fun _ k_ => AW.iald2 dL_law_664 rfl ht (sc_in (q := 2) (by omega) hn) (sc_at (q := 2) (by omega) hn) rfl k_) ?_
  refine AX.map (fun _ k_ => AW.callV (Y := mX2_of) (n := 2) (mr) (by omega) (by decide) rfl gM q1809 q1810 q1811 q141 q1812 dL_law_665 (by decide +kernel) rfl rfl (Nat.le_of_ble_eq_true rfl) rfl k_) ?_
  refine AX.map (fun _ k_ => AW.icmp_eq (tgt := 1591) dL_law_668 (by decide) rfl (fun _ => k_) (fun c_ => absurd rfl c_)) ?_
  exact kk v nx
theorem lc_is (h : Inv s) (hg : s.b.g 500 = some (sc n f)) (hm : m + 6 ≤ n) (hn : n ≤ 384) (kk : ∀ v, Nxt s v → AX Q 140 mL_law (hp v) 1591 [some (.ref 500), some (.ref 512), some (.ref 625), some (.int (nI m))] [] o) : AX Q 140 mL_law (hp s) 673 [some (.ref 500), some (.ref 512), some (.ref 625), some (.int (nI m))] [] o := by
  obtain ⟨dx, dm, r, t, v, hd, xr, mr, nx, t3⟩ := b_is h (f (m + 1))
  have hs := g300 hg
  refine AX.map (fun _ k_ => AW.aload_n dL_law_673 rfl rfl k_) ?_
  refine AX.map (fun _ k_ => AW.aload_n dL_law_674 rfl rfl k_) ?_
  refine AX.map (fun _ k_ => AW.iload_n dL_law_675 rfl rfl k_) ?_
  refine AX.map (fun _ k_ => AW.iconst (v := 1) dL_law_676 (by decide) rfl k_) ?_
  refine AX.map (fun _ k_ => AW.iadd dL_law_677 rfl k_) ?_
  refine AX.map (fun _ k_ => AW.iald2 dL_law_678 rfl hs (sc_in (q := 1) (by omega) hn) (sc_at (q := 1) (by omega) hn) rfl k_) ?_
  refine AX.map (fun _ k_ => AW.callV (Y := mX0_is) (n := 1) (xr) (by omega) (by decide) rfl gX q1129 q1130 q1131 q138 q1132 dL_law_679 (by decide +kernel) rfl rfl (Nat.le_of_ble_eq_true rfl) rfl k_) ?_
  have ht : (hp t).g 500 = some (sc n f) := g300 (t3.trans hg)
  refine AX.map (fun _ k_ => AW.aload_n dL_law_682 rfl rfl k_) ?_
  refine AX.map (fun _ k_ => AW.aload_n dL_law_683 rfl rfl k_) ?_
  refine AX.map (fun _ k_ => AW.iload_n dL_law_684 rfl rfl k_) ?_
  refine AX.map (fun _ k_ => AW.iconst (v := 1) dL_law_685 (by decide) rfl k_) ?_
  refine AX.map (fun _ k_ => AW.iadd dL_law_686 rfl k_) ?_
  refine AX.map (fun _ k_ => AW.iald2 dL_law_687 rfl ht (sc_in (q := 1) (by omega) hn) (sc_at (q := 1) (by omega) hn) rfl k_) ?_
  refine AX.map (fun _ k_ => AW.callV (Y := mX2_is) (n := 1) (mr) (by omega) (by decide) rfl gM q1813 q1814 q1815 q141 q1816 dL_law_688 (by decide +kernel) rfl rfl (Nat.le_of_ble_eq_true rfl) rfl k_) ?_
  refine AX.map (fun _ k_ => AW.icmp_eq (tgt := 1591) dL_law_691 (by decide) rfl (fun _ => k_) (fun c_ => absurd rfl c_)) ?_
  exact kk v nx
theorem lc_book (h : Inv s) (hg : s.b.g 500 = some (sc n f)) (hm : m + 6 ≤ n) (hn : n ≤ 384) (kk : ∀ v, Nxt s v → AX Q 140 mL_law (hp v) 1591 [some (.ref 500), some (.ref 512), some (.ref 625), some (.int (nI m))] [] o) : AX Q 140 mL_law (hp s) 696 [some (.ref 500), some (.ref 512), some (.ref 625), some (.int (nI m))] [] o := by
  obtain ⟨dx, dm, r, t, v, hd, xr, mr, nx, t3⟩ := b_book h (f (m + 1)) (f (m + 2))
  have hs := g300 hg
  refine AX.map (fun _ k_ => AW.aload_n dL_law_696 rfl rfl k_) ?_
  refine AX.map (fun _ k_ => AW.aload_n dL_law_697 rfl rfl k_) ?_
  refine AX.map (fun _ k_ => AW.iload_n dL_law_698 rfl rfl k_) ?_
  refine AX.map (fun _ k_ => AW.iconst (v := 1) dL_law_699 (by decide) rfl k_) ?_
  refine AX.map (fun _ k_ => AW.iadd dL_law_700 rfl k_) ?_
  refine AX.map (fun _ k_ => AW.iald2 dL_law_701 rfl hs (sc_in (q := 1) (by omega) hn) (sc_at (q := 1) (by omega) hn) rfl k_) ?_
  refine AX.map (fun _ k_ => AW.aload_n dL_law_702 rfl rfl k_) ?_
  refine AX.map (fun _ k_ => AW.iload_n dL_law_703 rfl rfl k_) ?_
  refine AX.map (fun _ k_ => AW.iconst (v := 2) dL_law_704 (by decide) rfl k_) ?_
  refine AX.map (fun _ k_ => AW.iadd dL_law_705 rfl k_) ?_
  refine AX.map (fun _ k_ => AW.iald2 dL_law_706 rfl hs (sc_in (q := 2) (by omega) hn) (sc_at (q := 2) (by omega) hn) rfl k_) ?_
  refine AX.map (fun _ k_ => AW.callV (Y := mX0_book) (n := 2) (xr) (by omega) (by decide) rfl gX q1133 q1134 q1135 q138 q1136 dL_law_707 (by decide +kernel) rfl rfl (Nat.le_of_ble_eq_true rfl) rfl k_) ?_
  have ht : (hp t).g 500 = some (sc n f) := g300 (t3.trans hg)
  refine AX.map (fun _ k_ => AW.aload_n dL_law_710 rfl rfl k_) ?_
  refine AX.map (fun _ k_ => AW.aload_n dL_law_711 rfl rfl k_) ?_
  refine AX.map (fun _ k_ => AW.iload_n dL_law_712 rfl rfl k_) ?_
  refine AX.map (fun _ k_ => AW.iconst (v := 1) dL_law_713 (by decide) rfl k_) ?_
  refine AX.map (fun _ k_ => AW.iadd dL_law_714 rfl k_) ?_
  refine AX.map (fun _ k_ => AW.iald2 dL_law_715 rfl ht (sc_in (q := 1) (by omega) hn) (sc_at (q := 1) (by omega) hn) rfl k_) ?_
  refine AX.map (fun _ k_ => AW.aload_n dL_law_716 rfl rfl k_) ?_
  refine AX.map (fun _ k_ => AW.iload_n dL_law_717 rfl rfl k_) ?_
  refine AX.map (fun _ k_ => AW.iconst (v := 2) dL_law_718 (by decide) rfl k_) ?_
  refine AX.map (fun _ k_ => AW.iadd dL_law_719 rfl k_) ?_
  refine AX.map (fun _ k_ => AW.iald2 dL_law_720 rfl ht (sc_in (q := 2) (by omega) hn) (sc_at (q := 2) (by omega) hn) rfl k_) ?_
  refine AX.map (fun _ k_ => AW.callV (Y := mX2_book) (n := 2) (mr) (by omega) (by decide) rfl gM q1817 q1818 q1819 q141 q1820 dL_law_721 (by decide +kernel) rfl rfl (Nat.le_of_ble_eq_true rfl) rfl k_) ?_
  refine AX.map (fun _ k_ => AW.icmp_eq (tgt := 1591) dL_law_724 (by decide) rfl (fun _ => k_) (fun c_ => absurd rfl c_)) ?_
  exact kk v nx
theorem lc_foretold (h : Inv s) (hg : s.b.g 500 = some (sc n f)) (hm : m + 6 ≤ n) (hn : n ≤ 384) (kk : ∀ v, Nxt s v → AX Q 140 mL_law (hp v) 1591 [some (.ref 500), some (.ref 512), some (.ref 625), some (.int (nI m))] [] o) : AX Q 140 mL_law (hp s) 729 [some (.ref 500), some (.ref 512), some (.ref 625), some (.int (nI m))] [] o := by
  obtain ⟨dx, dm, r, t, v, hd, xr, mr, nx, t3⟩ := b_foretold h (f (m + 1)) (f (m + 2))
  have hs := g300 hg
  refine AX.map (fun _ k_ => AW.aload_n dL_law_729 rfl rfl k_) ?_
  refine AX.map (fun _ k_ => AW.aload_n dL_law_730 rfl rfl k_) ?_
  refine AX.map (fun _ k_ => AW.iload_n dL_law_731 rfl rfl k_) ?_
  refine AX.map (fun _ k_ => AW.iconst (v := 1) dL_law_732 (by decide) rfl k_) ?_
  refine AX.map (fun _ k_ => AW.iadd dL_law_733 rfl k_) ?_
  refine AX.map (fun _ k_ => AW.iald2 dL_law_734 rfl hs (sc_in (q := 1) (by omega) hn) (sc_at (q := 1) (by omega) hn) rfl k_) ?_
  refine AX.map (fun _ k_ => AW.aload_n dL_law_735 rfl rfl k_) ?_
  refine AX.map (fun _ k_ => AW.iload_n dL_law_736 rfl rfl k_) ?_
  refine AX.map (fun _ k_ => AW.iconst (v := 2) dL_law_737 (by decide) rfl k_) ?_
  refine AX.map (fun _ k_ => AW.iadd dL_law_738 rfl k_) ?_
  refine AX.map (fun _ k_ => AW.iald2 dL_law_739 rfl hs (sc_in (q := 2) (by omega) hn) (sc_at (q := 2) (by omega) hn) rfl k_) ?_
  refine AX.map (fun _ k_ => AW.callV (Y := mX0_foretold) (n := 2) (xr) (by omega) (by decide) rfl gX q1137 q1138 q1139 q138 q1140 dL_law_740 (by decide +kernel) rfl rfl (Nat.le_of_ble_eq_true rfl) rfl k_) ?_
  have ht : (hp t).g 500 = some (sc n f) := g300 (t3.trans hg)
  refine AX.map (fun _ k_ => AW.aload_n dL_law_743 rfl rfl k_) ?_
  refine AX.map (fun _ k_ => AW.aload_n dL_law_744 rfl rfl k_) ?_
  refine AX.map (fun _ k_ => AW.iload_n dL_law_745 rfl rfl k_) ?_
  refine AX.map (fun _ k_ => AW.iconst (v := 1) dL_law_746 (by decide) rfl k_) ?_
  refine AX.map (fun _ k_ => AW.iadd dL_law_747 rfl k_) ?_
  refine AX.map (fun _ k_ => AW.iald2 dL_law_748 rfl ht (sc_in (q := 1) (by omega) hn) (sc_at (q := 1) (by omega) hn) rfl k_) ?_
  refine AX.map (fun _ k_ => AW.aload_n dL_law_749 rfl rfl k_) ?_
  refine AX.map (fun _ k_ => AW.iload_n dL_law_750 rfl rfl k_) ?_
  refine AX.map (fun _ k_ => AW.iconst (v := 2) dL_law_751 (by decide) rfl k_) ?_
  refine AX.map (fun _ k_ => AW.iadd dL_law_752 rfl k_) ?_
  refine AX.map (fun _ k_ => AW.iald2 dL_law_753 rfl ht (sc_in (q := 2) (by omega) hn) (sc_at (q := 2) (by omega) hn) rfl k_) ?_
  refine AX.map (fun _ k_ => AW.callV (Y := mX2_foretold) (n := 2) (mr) (by omega) (by decide) rfl gM q1837 q1838 q1839 q141 q1840 dL_law_754 (by decide +kernel) rfl rfl (Nat.le_of_ble_eq_true rfl) rfl k_) ?_
  refine AX.map (fun _ k_ => AW.icmp_eq (tgt := 1591) dL_law_757 (by decide) rfl (fun _ => k_) (fun c_ => absurd rfl c_)) ?_
  exact kk v nx
theorem lc_indoors (h : Inv s) (hg : s.b.g 500 = some (sc n f)) (hm : m + 6 ≤ n) (hn : n ≤ 384) (kk : ∀ v, Nxt s v → AX Q 140 mL_law (hp v) 1591 [some (.ref 500), some (.ref 512), some (.ref 625), some (.int (nI m))] [] o) : AX Q 140 mL_law (hp s) 762 [some (.ref 500), some (.ref 512), some (.ref 625), some (.int (nI m))] [] o := by
  obtain ⟨dx, dm, r, t, v, hd, xr, mr, nx, t3⟩ := b_indoors h (f (m + 1))
  have hs := g300 hg
  refine AX.map (fun _ k_ => AW.aload_n dL_law_762 rfl rfl k_) ?_
  refine AX.map (fun _ k_ => AW.aload_n dL_law_763 rfl rfl k_) ?_
  refine AX.map (fun _ k_ => AW.iload_n dL_law_764 rfl rfl k_) ?_
  refine AX.map (fun _ k_ => AW.iconst (v := 1) dL_law_765 (by decide) rfl k_) ?_
  refine AX.map (fun _ k_ => AW.iadd dL_law_766 rfl k_) ?_
  refine AX.map (fun _ k_ => AW.iald2 dL_law_767 rfl hs (sc_in (q := 1) (by omega) hn) (sc_at (q := 1) (by omega) hn) rfl k_) ?_
  refine AX.map (fun _ k_ => AW.callV (Y := mX0_indoors) (n := 1) (xr) (by omega) (by decide) rfl gX q1145 q1146 q1147 q138 q1148 dL_law_768 (by decide +kernel) rfl rfl (Nat.le_of_ble_eq_true rfl) rfl k_) ?_
  have ht : (hp t).g 500 = some (sc n f) := g300 (t3.trans hg)
  refine AX.map (fun _ k_ => AW.aload_n dL_law_771 rfl rfl k_) ?_
  refine AX.map (fun _ k_ => AW.aload_n dL_law_772 rfl rfl k_) ?_
  refine AX.map (fun _ k_ => AW.iload_n dL_law_773 rfl rfl k_) ?_
  refine AX.map (fun _ k_ => AW.iconst (v := 1) dL_law_774 (by decide) rfl k_) ?_
  refine AX.map (fun _ k_ => AW.iadd dL_law_775 rfl k_) ?_
  refine AX.map (fun _ k_ => AW.iald2 dL_law_776 rfl ht (sc_in (q := 1) (by omega) hn) (sc_at (q := 1) (by omega) hn) rfl k_) ?_
  refine AX.map (fun _ k_ => AW.callV (Y := mX2_indoors) (n := 1) (mr) (by omega) (by decide) rfl gM q1861 q1862 q1863 q141 q1864 dL_law_777 (by decide +kernel) rfl rfl (Nat.le_of_ble_eq_true rfl) rfl k_) ?_
  refine AX.map (fun _ k_ => AW.icmp_eq (tgt := 1591) dL_law_780 (by decide) rfl (fun _ => k_) (fun c_ => absurd rfl c_)) ?_
  exact kk v nx
theorem lc_crowded_t (h : Inv s) (hg : s.b.g 500 = some (sc n f)) (hm : m + 6 ≤ n) (hn : n ≤ 384) (z : ¬ f (m + 1) = 0) (kk : ∀ v, Nxt s v → AX Q 140 mL_law (hp v) 1591 [some (.ref 500), some (.ref 512), some (.ref 625), some (.int (nI m))] [] o) : AX Q 140 mL_law (hp s) 785 [some (.ref 500), some (.ref 512), some (.ref 625), some (.int (nI m))] [] o := by
  obtain ⟨dx, dm, r, t, v, hd, xr, mr, nx, t3⟩ := b_crowded h 1
  have hs := g300 hg
  refine AX.map (fun _ k_ => AW.aload_n dL_law_785 rfl rfl k_) ?_
  refine AX.map (fun _ k_ => AW.aload_n dL_law_786 rfl rfl k_) ?_
  refine AX.map (fun _ k_ => AW.iload_n dL_law_787 rfl rfl k_) ?_
  refine AX.map (fun _ k_ => AW.iconst (v := 1) dL_law_788 (by decide) rfl k_) ?_
  refine AX.map (fun _ k_ => AW.iadd dL_law_789 rfl k_) ?_
  refine AX.map (fun _ k_ => AW.iald2 dL_law_790 rfl hs (sc_in (q := 1) (by omega) hn) (sc_at (q := 1) (by omega) hn) rfl k_) ?_
  refine AX.map (fun _ k_ => AW.if_eq (tgt := 798) dL_law_791 (by decide) rfl (fun c_ => absurd c_ z) (fun _ => k_)) ?_
  refine AX.map (fun _ k_ => AW.iconst (v := 1) dL_law_794 (by decide) rfl k_) ?_
  refine AX.map (fun _ k_ => AW.goto (tgt := 799) dL_law_795 (by decide) k_) ?_
  refine AX.map (fun _ k_ => AW.callV (Y := mX0_crowded) (n := 1) (xr) (by omega) (by decide) rfl gX q1153 q1154 q1155 q138 q1156 dL_law_799 (by decide +kernel) rfl rfl (Nat.le_of_ble_eq_true rfl) rfl k_) ?_
  have ht : (hp t).g 500 = some (sc n f) := g300 (t3.trans hg)
  refine AX.map (fun _ k_ => AW.aload_n dL_law_802 rfl rfl k_) ?_
  refine AX.map (fun _ k_ => AW.aload_n dL_law_803 rfl rfl k_) ?_
  refine AX.map (fun _ k_ => AW.iload_n dL_law_804 rfl rfl k_) ?_
  refine AX.map (fun _ k_ => AW.iconst (v := 1) dL_law_805 (by decide) rfl k_) ?_
  refine AX.map (fun _ k_ => AW.iadd dL_law_806 rfl k_) ?_
  refine AX.map (fun _ k_ => AW.iald2 dL_law_807 rfl ht (sc_in (q := 1) (by omega) hn) (sc_at (q := 1) (by omega) hn) rfl k_) ?_
  refine AX.map (fun _ k_ => AW.if_eq (tgt := 815) dL_law_808 (by decide) rfl (fun c_ => absurd c_ z) (fun _ => k_)) ?_
  refine AX.map (fun _ k_ => AW.iconst (v := 1) dL_law_811 (by decide) rfl k_) ?_
  refine AX.map (fun _ k_ => AW.goto (tgt := 816) dL_law_812 (by decide) k_) ?_
  refine AX.map (fun _ k_ => AW.callV (Y := mX2_crowded) (n := 1) (mr) (by omega) (by decide) rfl gM q1869 q1870 q1871 q141 q1872 dL_law_816 (by decide +kernel) rfl rfl (Nat.le_of_ble_eq_true rfl) rfl k_) ?_
  refine AX.map (fun _ k_ => AW.icmp_eq (tgt := 1591) dL_law_819 (by decide) rfl (fun _ => k_) (fun c_ => absurd rfl c_)) ?_
  exact kk v nx
theorem lc_crowded_f (h : Inv s) (hg : s.b.g 500 = some (sc n f)) (hm : m + 6 ≤ n) (hn : n ≤ 384) (z : f (m + 1) = 0) (kk : ∀ v, Nxt s v → AX Q 140 mL_law (hp v) 1591 [some (.ref 500), some (.ref 512), some (.ref 625), some (.int (nI m))] [] o) : AX Q 140 mL_law (hp s) 785 [some (.ref 500), some (.ref 512), some (.ref 625), some (.int (nI m))] [] o := by
  obtain ⟨dx, dm, r, t, v, hd, xr, mr, nx, t3⟩ := b_crowded h 0
  have hs := g300 hg
  refine AX.map (fun _ k_ => AW.aload_n dL_law_785 rfl rfl k_) ?_
  refine AX.map (fun _ k_ => AW.aload_n dL_law_786 rfl rfl k_) ?_
  refine AX.map (fun _ k_ => AW.iload_n dL_law_787 rfl rfl k_) ?_
  refine AX.map (fun _ k_ => AW.iconst (v := 1) dL_law_788 (by decide) rfl k_) ?_
  refine AX.map (fun _ k_ => AW.iadd dL_law_789 rfl k_) ?_
  refine AX.map (fun _ k_ => AW.iald2 dL_law_790 rfl hs (sc_in (q := 1) (by omega) hn) (sc_at (q := 1) (by omega) hn) rfl k_) ?_
  refine AX.map (fun _ k_ => AW.if_eq (tgt := 798) dL_law_791 (by decide) rfl (fun _ => k_) (fun c_ => absurd z c_)) ?_
  refine AX.map (fun _ k_ => AW.iconst (v := 0) dL_law_798 (by decide) rfl k_) ?_
  refine AX.map (fun _ k_ => AW.callV (Y := mX0_crowded) (n := 1) (xr) (by omega) (by decide) rfl gX q1153 q1154 q1155 q138 q1156 dL_law_799 (by decide +kernel) rfl rfl (Nat.le_of_ble_eq_true rfl) rfl k_) ?_
  have ht : (hp t).g 500 = some (sc n f) := g300 (t3.trans hg)
  refine AX.map (fun _ k_ => AW.aload_n dL_law_802 rfl rfl k_) ?_
  refine AX.map (fun _ k_ => AW.aload_n dL_law_803 rfl rfl k_) ?_
  refine AX.map (fun _ k_ => AW.iload_n dL_law_804 rfl rfl k_) ?_
  refine AX.map (fun _ k_ => AW.iconst (v := 1) dL_law_805 (by decide) rfl k_) ?_
  refine AX.map (fun _ k_ => AW.iadd dL_law_806 rfl k_) ?_
  refine AX.map (fun _ k_ => AW.iald2 dL_law_807 rfl ht (sc_in (q := 1) (by omega) hn) (sc_at (q := 1) (by omega) hn) rfl k_) ?_
  refine AX.map (fun _ k_ => AW.if_eq (tgt := 815) dL_law_808 (by decide) rfl (fun _ => k_) (fun c_ => absurd z c_)) ?_
  refine AX.map (fun _ k_ => AW.iconst (v := 0) dL_law_815 (by decide) rfl k_) ?_
  refine AX.map (fun _ k_ => AW.callV (Y := mX2_crowded) (n := 1) (mr) (by omega) (by decide) rfl gM q1869 q1870 q1871 q141 q1872 dL_law_816 (by decide +kernel) rfl rfl (Nat.le_of_ble_eq_true rfl) rfl k_) ?_
  refine AX.map (fun _ k_ => AW.icmp_eq (tgt := 1591) dL_law_819 (by decide) rfl (fun _ => k_) (fun c_ => absurd rfl c_)) ?_
  exact kk v nx
theorem lc_feast_t (h : Inv s) (hg : s.b.g 500 = some (sc n f)) (hm : m + 6 ≤ n) (hn : n ≤ 384) (z : ¬ f (m + 1) = 0) (kk : ∀ v, Nxt s v → AX Q 140 mL_law (hp v) 1591 [some (.ref 500), some (.ref 512), some (.ref 625), some (.int (nI m))] [] o) : AX Q 140 mL_law (hp s) 824 [some (.ref 500), some (.ref 512), some (.ref 625), some (.int (nI m))] [] o := by
  obtain ⟨dx, dm, r, t, v, hd, xr, mr, nx, t3⟩ := b_feast h 1
  have hs := g300 hg
  refine AX.map (fun _ k_ => AW.aload_n dL_law_824 rfl rfl k_) ?_
  refine AX.map (fun _ k_ => AW.aload_n dL_law_825 rfl rfl k_) ?_
  refine AX.map (fun _ k_ => AW.iload_n dL_law_826 rfl rfl k_) ?_
  refine AX.map (fun _ k_ => AW.iconst (v := 1) dL_law_827 (by decide) rfl k_) ?_
  refine AX.map (fun _ k_ => AW.iadd dL_law_828 rfl k_) ?_
  refine AX.map (fun _ k_ => AW.iald2 dL_law_829 rfl hs (sc_in (q := 1) (by omega) hn) (sc_at (q := 1) (by omega) hn) rfl k_) ?_
  refine AX.map (fun _ k_ => AW.if_eq (tgt := 837) dL_law_830 (by decide) rfl (fun c_ => absurd c_ z) (fun _ => k_)) ?_
  refine AX.map (fun _ k_ => AW.iconst (v := 1) dL_law_833 (by decide) rfl k_) ?_
  refine AX.map (fun _ k_ => AW.goto (tgt := 838) dL_law_834 (by decide) k_) ?_
  refine AX.map (fun _ k_ => AW.callV (Y := mX0_feast) (n := 1) (xr) (by omega) (by decide) rfl gX q1157 q1158 q1159 q138 q1160 dL_law_838 (by decide +kernel) rfl rfl (Nat.le_of_ble_eq_true rfl) rfl k_) ?_
  have ht : (hp t).g 500 = some (sc n f) := g300 (t3.trans hg)
  refine AX.map (fun _ k_ => AW.aload_n dL_law_841 rfl rfl k_) ?_
  refine AX.map (fun _ k_ => AW.aload_n dL_law_842 rfl rfl k_) ?_
  refine AX.map (fun _ k_ => AW.iload_n dL_law_843 rfl rfl k_) ?_
  refine AX.map (fun _ k_ => AW.iconst (v := 1) dL_law_844 (by decide) rfl k_) ?_
  refine AX.map (fun _ k_ => AW.iadd dL_law_845 rfl k_) ?_
  refine AX.map (fun _ k_ => AW.iald2 dL_law_846 rfl ht (sc_in (q := 1) (by omega) hn) (sc_at (q := 1) (by omega) hn) rfl k_) ?_
  refine AX.map (fun _ k_ => AW.if_eq (tgt := 854) dL_law_847 (by decide) rfl (fun c_ => absurd c_ z) (fun _ => k_)) ?_
  refine AX.map (fun _ k_ => AW.iconst (v := 1) dL_law_850 (by decide) rfl k_) ?_
  refine AX.map (fun _ k_ => AW.goto (tgt := 855) dL_law_851 (by decide) k_) ?_
  refine AX.map (fun _ k_ => AW.callV (Y := mX2_feast) (n := 1) (mr) (by omega) (by decide) rfl gM q1873 q1874 q1875 q141 q1876 dL_law_855 (by decide +kernel) rfl rfl (Nat.le_of_ble_eq_true rfl) rfl k_) ?_
  refine AX.map (fun _ k_ => AW.icmp_eq (tgt := 1591) dL_law_858 (by decide) rfl (fun _ => k_) (fun c_ => absurd rfl c_)) ?_
  exact kk v nx
theorem lc_feast_f (h : Inv s) (hg : s.b.g 500 = some (sc n f)) (hm : m + 6 ≤ n) (hn : n ≤ 384) (z : f (m + 1) = 0) (kk : ∀ v, Nxt s v → AX Q 140 mL_law (hp v) 1591 [some (.ref 500), some (.ref 512), some (.ref 625), some (.int (nI m))] [] o) : AX Q 140 mL_law (hp s) 824 [some (.ref 500), some (.ref 512), some (.ref 625), some (.int (nI m))] [] o := by
  obtain ⟨dx, dm, r, t, v, hd, xr, mr, nx, t3⟩ := b_feast h 0
  have hs := g300 hg
  refine AX.map (fun _ k_ => AW.aload_n dL_law_824 rfl rfl k_) ?_
  refine AX.map (fun _ k_ => AW.aload_n dL_law_825 rfl rfl k_) ?_
  refine AX.map (fun _ k_ => AW.iload_n dL_law_826 rfl rfl k_) ?_
  refine AX.map (fun _ k_ => AW.iconst (v := 1) dL_law_827 (by decide) rfl k_) ?_
  refine AX.map (fun _ k_ => AW.iadd dL_law_828 rfl k_) ?_
  refine AX.map (fun _ k_ => AW.iald2 dL_law_829 rfl hs (sc_in (q := 1) (by omega) hn) (sc_at (q := 1) (by omega) hn) rfl k_) ?_
  refine AX.map (fun _ k_ => AW.if_eq (tgt := 837) dL_law_830 (by decide) rfl (fun _ => k_) (fun c_ => absurd z c_)) ?_
  refine AX.map (fun _ k_ => AW.iconst (v := 0) dL_law_837 (by decide) rfl k_) ?_
  refine AX.map (fun _ k_ => AW.callV (Y := mX0_feast) (n := 1) (xr) (by omega) (by decide) rfl gX q1157 q1158 q1159 q138 q1160 dL_law_838 (by decide +kernel) rfl rfl (Nat.le_of_ble_eq_true rfl) rfl k_) ?_
  have ht : (hp t).g 500 = some (sc n f) := g300 (t3.trans hg)
  refine AX.map (fun _ k_ => AW.aload_n dL_law_841 rfl rfl k_) ?_
  refine AX.map (fun _ k_ => AW.aload_n dL_law_842 rfl rfl k_) ?_
  refine AX.map (fun _ k_ => AW.iload_n dL_law_843 rfl rfl k_) ?_
  refine AX.map (fun _ k_ => AW.iconst (v := 1) dL_law_844 (by decide) rfl k_) ?_
  refine AX.map (fun _ k_ => AW.iadd dL_law_845 rfl k_) ?_
  refine AX.map (fun _ k_ => AW.iald2 dL_law_846 rfl ht (sc_in (q := 1) (by omega) hn) (sc_at (q := 1) (by omega) hn) rfl k_) ?_
  refine AX.map (fun _ k_ => AW.if_eq (tgt := 854) dL_law_847 (by decide) rfl (fun _ => k_) (fun c_ => absurd z c_)) ?_
  refine AX.map (fun _ k_ => AW.iconst (v := 0) dL_law_854 (by decide) rfl k_) ?_
  refine AX.map (fun _ k_ => AW.callV (Y := mX2_feast) (n := 1) (mr) (by omega) (by decide) rfl gM q1873 q1874 q1875 q141 q1876 dL_law_855 (by decide +kernel) rfl rfl (Nat.le_of_ble_eq_true rfl) rfl k_) ?_
  refine AX.map (fun _ k_ => AW.icmp_eq (tgt := 1591) dL_law_858 (by decide) rfl (fun _ => k_) (fun c_ => absurd rfl c_)) ?_
  exact kk v nx
theorem lc_alone (h : Inv s) (hg : s.b.g 500 = some (sc n f)) (hm : m + 6 ≤ n) (hn : n ≤ 384) (kk : ∀ v, Nxt s v → AX Q 140 mL_law (hp v) 1591 [some (.ref 500), some (.ref 512), some (.ref 625), some (.int (nI m))] [] o) : AX Q 140 mL_law (hp s) 863 [some (.ref 500), some (.ref 512), some (.ref 625), some (.int (nI m))] [] o := by
  obtain ⟨dx, dm, r, t, v, hd, xr, mr, nx, t3⟩ := b_alone h
  have hs := g300 hg
  refine AX.map (fun _ k_ => AW.aload_n dL_law_863 rfl rfl k_) ?_
  refine AX.map (fun _ k_ => AW.callV (Y := mX0_alone) (n := 0) (xr) (by omega) (by decide) rfl gX q1165 q1166 q1167 q138 q1168 dL_law_864 (by decide +kernel) rfl rfl (Nat.le_of_ble_eq_true rfl) rfl k_) ?_
  refine AX.map (fun _ k_ => AW.aload_n dL_law_867 rfl rfl k_) ?_
  refine AX.map (fun _ k_ => AW.callV (Y := mX2_alone) (n := 0) (mr) (by omega) (by decide) rfl gM q1881 q1882 q1883 q141 q1884 dL_law_868 (by decide +kernel) rfl rfl (Nat.le_of_ble_eq_true rfl) rfl k_) ?_
  refine AX.map (fun _ k_ => AW.icmp_eq (tgt := 1591) dL_law_871 (by decide) rfl (fun _ => k_) (fun c_ => absurd rfl c_)) ?_
  exact kk v nx
theorem lc_nobodys (h : Inv s) (hg : s.b.g 500 = some (sc n f)) (hm : m + 6 ≤ n) (hn : n ≤ 384) (kk : ∀ v, Nxt s v → AX Q 140 mL_law (hp v) 1591 [some (.ref 500), some (.ref 512), some (.ref 625), some (.int (nI m))] [] o) : AX Q 140 mL_law (hp s) 876 [some (.ref 500), some (.ref 512), some (.ref 625), some (.int (nI m))] [] o := by
  obtain ⟨dx, dm, r, t, v, hd, xr, mr, nx, t3⟩ := b_nobodys h
  have hs := g300 hg
  refine AX.map (fun _ k_ => AW.aload_n dL_law_876 rfl rfl k_) ?_
  refine AX.map (fun _ k_ => AW.callV (Y := mX0_nobodys) (n := 0) (xr) (by omega) (by decide) rfl gX q1169 q1170 q1171 q138 q1172 dL_law_877 (by decide +kernel) rfl rfl (Nat.le_of_ble_eq_true rfl) rfl k_) ?_
  refine AX.map (fun _ k_ => AW.aload_n dL_law_880 rfl rfl k_) ?_
  refine AX.map (fun _ k_ => AW.callV (Y := mX2_nobodys) (n := 0) (mr) (by omega) (by decide) rfl gM q1885 q1886 q1887 q141 q1888 dL_law_881 (by decide +kernel) rfl rfl (Nat.le_of_ble_eq_true rfl) rfl k_) ?_
  refine AX.map (fun _ k_ => AW.icmp_eq (tgt := 1591) dL_law_884 (by decide) rfl (fun _ => k_) (fun c_ => absurd rfl c_)) ?_
  exact kk v nx
theorem lc_poorest (h : Inv s) (hg : s.b.g 500 = some (sc n f)) (hm : m + 6 ≤ n) (hn : n ≤ 384) (kk : ∀ v, Nxt s v → AX Q 140 mL_law (hp v) 1591 [some (.ref 500), some (.ref 512), some (.ref 625), some (.int (nI m))] [] o) : AX Q 140 mL_law (hp s) 889 [some (.ref 500), some (.ref 512), some (.ref 625), some (.int (nI m))] [] o := by
  obtain ⟨dx, dm, r, t, v, hd, xr, mr, nx, t3⟩ := b_poorest h (f (m + 1))
  have hs := g300 hg
  refine AX.map (fun _ k_ => AW.aload_n dL_law_889 rfl rfl k_) ?_
  refine AX.map (fun _ k_ => AW.aload_n dL_law_890 rfl rfl k_) ?_
  refine AX.map (fun _ k_ => AW.iload_n dL_law_891 rfl rfl k_) ?_
  refine AX.map (fun _ k_ => AW.iconst (v := 1) dL_law_892 (by decide) rfl k_) ?_
  refine AX.map (fun _ k_ => AW.iadd dL_law_893 rfl k_) ?_
  refine AX.map (fun _ k_ => AW.iald2 dL_law_894 rfl hs (sc_in (q := 1) (by omega) hn) (sc_at (q := 1) (by omega) hn) rfl k_) ?_
  refine AX.map (fun _ k_ => AW.callV (Y := mX0_poorest) (n := 1) (xr) (by omega) (by decide) rfl gX q1173 q1174 q1175 q138 q1176 dL_law_895 (by decide +kernel) rfl rfl (Nat.le_of_ble_eq_true rfl) rfl k_) ?_
  have ht : (hp t).g 500 = some (sc n f) := g300 (t3.trans hg)
  refine AX.map (fun _ k_ => AW.aload_n dL_law_898 rfl rfl k_) ?_
  refine AX.map (fun _ k_ => AW.aload_n dL_law_899 rfl rfl k_) ?_
  refine AX.map (fun _ k_ => AW.iload_n dL_law_900 rfl rfl k_) ?_
  refine AX.map (fun _ k_ => AW.iconst (v := 1) dL_law_901 (by decide) rfl k_) ?_
  refine AX.map (fun _ k_ => AW.iadd dL_law_902 rfl k_) ?_
  refine AX.map (fun _ k_ => AW.iald2 dL_law_903 rfl ht (sc_in (q := 1) (by omega) hn) (sc_at (q := 1) (by omega) hn) rfl k_) ?_
  refine AX.map (fun _ k_ => AW.callV (Y := mX2_poorest) (n := 1) (mr) (by omega) (by decide) rfl gM q1853 q1854 q1855 q141 q1856 dL_law_904 (by decide +kernel) rfl rfl (Nat.le_of_ble_eq_true rfl) rfl k_) ?_
  refine AX.map (fun _ k_ => AW.icmp_eq (tgt := 1591) dL_law_907 (by decide) rfl (fun _ => k_) (fun c_ => absurd rfl c_)) ?_
  exact kk v nx
theorem lc_seen_t (h : Inv s) (hg : s.b.g 500 = some (sc n f)) (hm : m + 6 ≤ n) (hn : n ≤ 384) (z : ¬ f (m + 3) = 0) (kk : ∀ v, Nxt s v → AX Q 140 mL_law (hp v) 1591 [some (.ref 500), some (.ref 512), some (.ref 625), some (.int (nI m))] [] o) : AX Q 140 mL_law (hp s) 912 [some (.ref 500), some (.ref 512), some (.ref 625), some (.int (nI m))] [] o := by
  obtain ⟨dx, dm, r, t, v, hd, xr, mr, nx, t3⟩ := b_seen h (f (m + 1)) (f (m + 2)) 1
  have hs := g300 hg
  refine AX.map (fun _ k_ => AW.aload_n dL_law_912 rfl rfl k_) ?_
  refine AX.map (fun _ k_ => AW.aload_n dL_law_913 rfl rfl k_) ?_
  refine AX.map (fun _ k_ => AW.iload_n dL_law_914 rfl rfl k_) ?_
  refine AX.map (fun _ k_ => AW.iconst (v := 1) dL_law_915 (by decide) rfl k_) ?_
  refine AX.map (fun _ k_ => AW.iadd dL_law_916 rfl k_) ?_
  refine AX.map (fun _ k_ => AW.iald2 dL_law_917 rfl hs (sc_in (q := 1) (by omega) hn) (sc_at (q := 1) (by omega) hn) rfl k_) ?_
  refine AX.map (fun _ k_ => AW.aload_n dL_law_918 rfl rfl k_) ?_
  refine AX.map (fun _ k_ => AW.iload_n dL_law_919 rfl rfl k_) ?_
  refine AX.map (fun _ k_ => AW.iconst (v := 2) dL_law_920 (by decide) rfl k_) ?_
  refine AX.map (fun _ k_ => AW.iadd dL_law_921 rfl k_) ?_
  refine AX.map (fun _ k_ => AW.iald2 dL_law_922 rfl hs (sc_in (q := 2) (by omega) hn) (sc_at (q := 2) (by omega) hn) rfl k_) ?_
  refine AX.map (fun _ k_ => AW.aload_n dL_law_923 rfl rfl k_) ?_
  refine AX.map (fun _ k_ => AW.iload_n dL_law_924 rfl rfl k_) ?_
  refine AX.map (fun _ k_ => AW.iconst (v := 3) dL_law_925 (by decide) rfl k_) ?_
  refine AX.map (fun _ k_ => AW.iadd dL_law_926 rfl k_) ?_
  refine AX.map (fun _ k_ => AW.iald2 dL_law_927 rfl hs (sc_in (q := 3) (by omega) hn) (sc_at (q := 3) (by omega) hn) rfl k_) ?_
  refine AX.map (fun _ k_ => AW.if_eq (tgt := 935) dL_law_928 (by decide) rfl (fun c_ => absurd c_ z) (fun _ => k_)) ?_
  refine AX.map (fun _ k_ => AW.iconst (v := 1) dL_law_931 (by decide) rfl k_) ?_
  refine AX.map (fun _ k_ => AW.goto (tgt := 936) dL_law_932 (by decide) k_) ?_
  refine AX.map (fun _ k_ => AW.callV (Y := mX0_seen) (n := 3) (xr) (by omega) (by decide) rfl gX q1177 q1178 q1179 q138 q1180 dL_law_936 (by decide +kernel) rfl rfl (Nat.le_of_ble_eq_true rfl) rfl k_) ?_
  have ht : (hp t).g 500 = some (sc n f) := g300 (t3.trans hg)
  refine AX.map (fun _ k_ => AW.aload_n dL_law_939 rfl rfl k_) ?_
  refine AX.map (fun _ k_ => AW.aload_n dL_law_940 rfl rfl k_) ?_
  refine AX.map (fun _ k_ => AW.iload_n dL_law_941 rfl rfl k_) ?_
  refine AX.map (fun _ k_ => AW.iconst (v := 1) dL_law_942 (by decide) rfl k_) ?_
  refine AX.map (fun _ k_ => AW.iadd dL_law_943 rfl k_) ?_
  refine AX.map (fun _ k_ => AW.iald2 dL_law_944 rfl ht (sc_in (q := 1) (by omega) hn) (sc_at (q := 1) (by omega) hn) rfl k_) ?_
  refine AX.map (fun _ k_ => AW.aload_n dL_law_945 rfl rfl k_) ?_
  refine AX.map (fun _ k_ => AW.iload_n dL_law_946 rfl rfl k_) ?_
  refine AX.map (fun _ k_ => AW.iconst (v := 2) dL_law_947 (by decide) rfl k_) ?_
  refine AX.map (fun _ k_ => AW.iadd dL_law_948 rfl k_) ?_
  refine AX.map (fun _ k_ => AW.iald2 dL_law_949 rfl ht (sc_in (q := 2) (by omega) hn) (sc_at (q := 2) (by omega) hn) rfl k_) ?_
  refine AX.map (fun _ k_ => AW.aload_n dL_law_950 rfl rfl k_) ?_
  refine AX.map (fun _ k_ => AW.iload_n dL_law_951 rfl rfl k_) ?_
  refine AX.map (fun _ k_ => AW.iconst (v := 3) dL_law_952 (by decide) rfl k_) ?_
  refine AX.map (fun _ k_ => AW.iadd dL_law_953 rfl k_) ?_
  refine AX.map (fun _ k_ => AW.iald2 dL_law_954 rfl ht (sc_in (q := 3) (by omega) hn) (sc_at (q := 3) (by omega) hn) rfl k_) ?_
  refine AX.map (fun _ k_ => AW.if_eq (tgt := 962) dL_law_955 (by decide) rfl (fun c_ => absurd c_ z) (fun _ => k_)) ?_
  refine AX.map (fun _ k_ => AW.iconst (v := 1) dL_law_958 (by decide) rfl k_) ?_
  refine AX.map (fun _ k_ => AW.goto (tgt := 963) dL_law_959 (by decide) k_) ?_
  refine AX.map (fun _ k_ => AW.callV (Y := mX2_seen) (n := 3) (mr) (by omega) (by decide) rfl gM q1889 q1890 q1891 q141 q1892 dL_law_963 (by decide +kernel) rfl rfl (Nat.le_of_ble_eq_true rfl) rfl k_) ?_
  refine AX.map (fun _ k_ => AW.icmp_eq (tgt := 1591) dL_law_966 (by decide) rfl (fun _ => k_) (fun c_ => absurd rfl c_)) ?_
  exact kk v nx
theorem lc_seen_f (h : Inv s) (hg : s.b.g 500 = some (sc n f)) (hm : m + 6 ≤ n) (hn : n ≤ 384) (z : f (m + 3) = 0) (kk : ∀ v, Nxt s v → AX Q 140 mL_law (hp v) 1591 [some (.ref 500), some (.ref 512), some (.ref 625), some (.int (nI m))] [] o) : AX Q 140 mL_law (hp s) 912 [some (.ref 500), some (.ref 512), some (.ref 625), some (.int (nI m))] [] o := by
  obtain ⟨dx, dm, r, t, v, hd, xr, mr, nx, t3⟩ := b_seen h (f (m + 1)) (f (m + 2)) 0
  have hs := g300 hg
  refine AX.map (fun _ k_ => AW.aload_n dL_law_912 rfl rfl k_) ?_
  refine AX.map (fun _ k_ => AW.aload_n dL_law_913 rfl rfl k_) ?_
  refine AX.map (fun _ k_ => AW.iload_n dL_law_914 rfl rfl k_) ?_
  refine AX.map (fun _ k_ => AW.iconst (v := 1) dL_law_915 (by decide) rfl k_) ?_
  refine AX.map (fun _ k_ => AW.iadd dL_law_916 rfl k_) ?_
  refine AX.map (fun _ k_ => AW.iald2 dL_law_917 rfl hs (sc_in (q := 1) (by omega) hn) (sc_at (q := 1) (by omega) hn) rfl k_) ?_
  refine AX.map (fun _ k_ => AW.aload_n dL_law_918 rfl rfl k_) ?_
  refine AX.map (fun _ k_ => AW.iload_n dL_law_919 rfl rfl k_) ?_
  refine AX.map (fun _ k_ => AW.iconst (v := 2) dL_law_920 (by decide) rfl k_) ?_
  refine AX.map (fun _ k_ => AW.iadd dL_law_921 rfl k_) ?_
  refine AX.map (fun _ k_ => AW.iald2 dL_law_922 rfl hs (sc_in (q := 2) (by omega) hn) (sc_at (q := 2) (by omega) hn) rfl k_) ?_
  refine AX.map (fun _ k_ => AW.aload_n dL_law_923 rfl rfl k_) ?_
  refine AX.map (fun _ k_ => AW.iload_n dL_law_924 rfl rfl k_) ?_
  refine AX.map (fun _ k_ => AW.iconst (v := 3) dL_law_925 (by decide) rfl k_) ?_
  refine AX.map (fun _ k_ => AW.iadd dL_law_926 rfl k_) ?_
  refine AX.map (fun _ k_ => AW.iald2 dL_law_927 rfl hs (sc_in (q := 3) (by omega) hn) (sc_at (q := 3) (by omega) hn) rfl k_) ?_
  refine AX.map (fun _ k_ => AW.if_eq (tgt := 935) dL_law_928 (by decide) rfl (fun _ => k_) (fun c_ => absurd z c_)) ?_
  refine AX.map (fun _ k_ => AW.iconst (v := 0) dL_law_935 (by decide) rfl k_) ?_
  refine AX.map (fun _ k_ => AW.callV (Y := mX0_seen) (n := 3) (xr) (by omega) (by decide) rfl gX q1177 q1178 q1179 q138 q1180 dL_law_936 (by decide +kernel) rfl rfl (Nat.le_of_ble_eq_true rfl) rfl k_) ?_
  have ht : (hp t).g 500 = some (sc n f) := g300 (t3.trans hg)
  refine AX.map (fun _ k_ => AW.aload_n dL_law_939 rfl rfl k_) ?_
  refine AX.map (fun _ k_ => AW.aload_n dL_law_940 rfl rfl k_) ?_
  refine AX.map (fun _ k_ => AW.iload_n dL_law_941 rfl rfl k_) ?_
  refine AX.map (fun _ k_ => AW.iconst (v := 1) dL_law_942 (by decide) rfl k_) ?_
  refine AX.map (fun _ k_ => AW.iadd dL_law_943 rfl k_) ?_
  refine AX.map (fun _ k_ => AW.iald2 dL_law_944 rfl ht (sc_in (q := 1) (by omega) hn) (sc_at (q := 1) (by omega) hn) rfl k_) ?_
  refine AX.map (fun _ k_ => AW.aload_n dL_law_945 rfl rfl k_) ?_
  refine AX.map (fun _ k_ => AW.iload_n dL_law_946 rfl rfl k_) ?_
  refine AX.map (fun _ k_ => AW.iconst (v := 2) dL_law_947 (by decide) rfl k_) ?_
  refine AX.map (fun _ k_ => AW.iadd dL_law_948 rfl k_) ?_
  refine AX.map (fun _ k_ => AW.iald2 dL_law_949 rfl ht (sc_in (q := 2) (by omega) hn) (sc_at (q := 2) (by omega) hn) rfl k_) ?_
  refine AX.map (fun _ k_ => AW.aload_n dL_law_950 rfl rfl k_) ?_
  refine AX.map (fun _ k_ => AW.iload_n dL_law_951 rfl rfl k_) ?_
  refine AX.map (fun _ k_ => AW.iconst (v := 3) dL_law_952 (by decide) rfl k_) ?_
  refine AX.map (fun _ k_ => AW.iadd dL_law_953 rfl k_) ?_
  refine AX.map (fun _ k_ => AW.iald2 dL_law_954 rfl ht (sc_in (q := 3) (by omega) hn) (sc_at (q := 3) (by omega) hn) rfl k_) ?_
  refine AX.map (fun _ k_ => AW.if_eq (tgt := 962) dL_law_955 (by decide) rfl (fun _ => k_) (fun c_ => absurd z c_)) ?_
  refine AX.map (fun _ k_ => AW.iconst (v := 0) dL_law_962 (by decide) rfl k_) ?_
  refine AX.map (fun _ k_ => AW.callV (Y := mX2_seen) (n := 3) (mr) (by omega) (by decide) rfl gM q1889 q1890 q1891 q141 q1892 dL_law_963 (by decide +kernel) rfl rfl (Nat.le_of_ble_eq_true rfl) rfl k_) ?_
  refine AX.map (fun _ k_ => AW.icmp_eq (tgt := 1591) dL_law_966 (by decide) rfl (fun _ => k_) (fun c_ => absurd rfl c_)) ?_
  exact kk v nx
theorem lc_sets_t (h : Inv s) (hg : s.b.g 500 = some (sc n f)) (hm : m + 6 ≤ n) (hn : n ≤ 384) (z : ¬ f (m + 3) = 0) (kk : ∀ v, Nxt s v → AX Q 140 mL_law (hp v) 1591 [some (.ref 500), some (.ref 512), some (.ref 625), some (.int (nI m))] [] o) : AX Q 140 mL_law (hp s) 971 [some (.ref 500), some (.ref 512), some (.ref 625), some (.int (nI m))] [] o := by
  obtain ⟨dx, dm, r, t, v, hd, xr, mr, nx, t3⟩ := b_sets h (f (m + 1)) (f (m + 2)) true
  have hs := g300 hg
  refine AX.map (fun _ k_ => AW.aload_n dL_law_971 rfl rfl k_) ?_
  refine AX.map (fun _ k_ => AW.aload_n dL_law_972 rfl rfl k_) ?_
  refine AX.map (fun _ k_ => AW.iload_n dL_law_973 rfl rfl k_) ?_
  refine AX.map (fun _ k_ => AW.iconst (v := 1) dL_law_974 (by decide) rfl k_) ?_
  refine AX.map (fun _ k_ => AW.iadd dL_law_975 rfl k_) ?_
  refine AX.map (fun _ k_ => AW.iald2 dL_law_976 rfl hs (sc_in (q := 1) (by omega) hn) (sc_at (q := 1) (by omega) hn) rfl k_) ?_
  refine AX.map (fun _ k_ => AW.aload_n dL_law_977 rfl rfl k_) ?_
  refine AX.map (fun _ k_ => AW.iload_n dL_law_978 rfl rfl k_) ?_
  refine AX.map (fun _ k_ => AW.iconst (v := 2) dL_law_979 (by decide) rfl k_) ?_
  refine AX.map (fun _ k_ => AW.iadd dL_law_980 rfl k_) ?_
  refine AX.map (fun _ k_ => AW.iald2 dL_law_981 rfl hs (sc_in (q := 2) (by omega) hn) (sc_at (q := 2) (by omega) hn) rfl k_) ?_
  refine AX.map (fun _ k_ => AW.aload_n dL_law_982 rfl rfl k_) ?_
  refine AX.map (fun _ k_ => AW.iload_n dL_law_983 rfl rfl k_) ?_
  refine AX.map (fun _ k_ => AW.iconst (v := 3) dL_law_984 (by decide) rfl k_) ?_
  refine AX.map (fun _ k_ => AW.iadd dL_law_985 rfl k_) ?_
  refine AX.map (fun _ k_ => AW.iald2 dL_law_986 rfl hs (sc_in (q := 3) (by omega) hn) (sc_at (q := 3) (by omega) hn) rfl k_) ?_
  refine AX.map (fun _ k_ => AW.if_eq (tgt := 994) dL_law_987 (by decide) rfl (fun c_ => absurd c_ z) (fun _ => k_)) ?_
  refine AX.map (fun _ k_ => AW.iconst (v := 1) dL_law_990 (by decide) rfl k_) ?_
  refine AX.map (fun _ k_ => AW.goto (tgt := 995) dL_law_991 (by decide) k_) ?_
  refine AX.map (fun _ k_ => AW.callV (Y := mX0_sets) (n := 3) (xr) (by omega) (by decide) rfl gX q1189 q1190 q1191 q138 q1192 dL_law_995 (by decide +kernel) rfl rfl (Nat.le_of_ble_eq_true rfl) rfl k_) ?_
  have ht : (hp t).g 500 = some (sc n f) := g300 (t3.trans hg)
  refine AX.map (fun _ k_ => AW.aload_n dL_law_998 rfl rfl k_) ?_
  refine AX.map (fun _ k_ => AW.aload_n dL_law_999 rfl rfl k_) ?_
  refine AX.map (fun _ k_ => AW.iload_n dL_law_1000 rfl rfl k_) ?_
  refine AX.map (fun _ k_ => AW.iconst (v := 1) dL_law_1001 (by decide) rfl k_) ?_
  refine AX.map (fun _ k_ => AW.iadd dL_law_1002 rfl k_) ?_
  refine AX.map (fun _ k_ => AW.iald2 dL_law_1003 rfl ht (sc_in (q := 1) (by omega) hn) (sc_at (q := 1) (by omega) hn) rfl k_) ?_
  refine AX.map (fun _ k_ => AW.aload_n dL_law_1004 rfl rfl k_) ?_
  refine AX.map (fun _ k_ => AW.iload_n dL_law_1005 rfl rfl k_) ?_
  refine AX.map (fun _ k_ => AW.iconst (v := 2) dL_law_1006 (by decide) rfl k_) ?_
  refine AX.map (fun _ k_ => AW.iadd dL_law_1007 rfl k_) ?_
  refine AX.map (fun _ k_ => AW.iald2 dL_law_1008 rfl ht (sc_in (q := 2) (by omega) hn) (sc_at (q := 2) (by omega) hn) rfl k_) ?_
  refine AX.map (fun _ k_ => AW.aload_n dL_law_1009 rfl rfl k_) ?_
  refine AX.map (fun _ k_ => AW.iload_n dL_law_1010 rfl rfl k_) ?_
  refine AX.map (fun _ k_ => AW.iconst (v := 3) dL_law_1011 (by decide) rfl k_) ?_
  refine AX.map (fun _ k_ => AW.iadd dL_law_1012 rfl k_) ?_
  refine AX.map (fun _ k_ => AW.iald2 dL_law_1013 rfl ht (sc_in (q := 3) (by omega) hn) (sc_at (q := 3) (by omega) hn) rfl k_) ?_
  refine AX.map (fun _ k_ => AW.if_eq (tgt := 1021) dL_law_1014 (by decide) rfl (fun c_ => absurd c_ z) (fun _ => k_)) ?_
  refine AX.map (fun _ k_ => AW.iconst (v := 1) dL_law_1017 (by decide) rfl k_) ?_
  refine AX.map (fun _ k_ => AW.goto (tgt := 1022) dL_law_1018 (by decide) k_) ?_
  refine AX.map (fun _ k_ => AW.callV (Y := mX2_sets) (n := 3) (mr) (by omega) (by decide) rfl gM q1893 q1894 q1895 q141 q1896 dL_law_1022 (by decide +kernel) rfl rfl (Nat.le_of_ble_eq_true rfl) rfl k_) ?_
  refine AX.map (fun _ k_ => AW.icmp_eq (tgt := 1591) dL_law_1025 (by decide) rfl (fun _ => k_) (fun c_ => absurd rfl c_)) ?_
  exact kk v nx
theorem lc_sets_f (h : Inv s) (hg : s.b.g 500 = some (sc n f)) (hm : m + 6 ≤ n) (hn : n ≤ 384) (z : f (m + 3) = 0) (kk : ∀ v, Nxt s v → AX Q 140 mL_law (hp v) 1591 [some (.ref 500), some (.ref 512), some (.ref 625), some (.int (nI m))] [] o) : AX Q 140 mL_law (hp s) 971 [some (.ref 500), some (.ref 512), some (.ref 625), some (.int (nI m))] [] o := by
  obtain ⟨dx, dm, r, t, v, hd, xr, mr, nx, t3⟩ := b_sets h (f (m + 1)) (f (m + 2)) false
  have hs := g300 hg
  refine AX.map (fun _ k_ => AW.aload_n dL_law_971 rfl rfl k_) ?_
  refine AX.map (fun _ k_ => AW.aload_n dL_law_972 rfl rfl k_) ?_
  refine AX.map (fun _ k_ => AW.iload_n dL_law_973 rfl rfl k_) ?_
  refine AX.map (fun _ k_ => AW.iconst (v := 1) dL_law_974 (by decide) rfl k_) ?_
  refine AX.map (fun _ k_ => AW.iadd dL_law_975 rfl k_) ?_
  refine AX.map (fun _ k_ => AW.iald2 dL_law_976 rfl hs (sc_in (q := 1) (by omega) hn) (sc_at (q := 1) (by omega) hn) rfl k_) ?_
  refine AX.map (fun _ k_ => AW.aload_n dL_law_977 rfl rfl k_) ?_
  refine AX.map (fun _ k_ => AW.iload_n dL_law_978 rfl rfl k_) ?_
  refine AX.map (fun _ k_ => AW.iconst (v := 2) dL_law_979 (by decide) rfl k_) ?_
  refine AX.map (fun _ k_ => AW.iadd dL_law_980 rfl k_) ?_
  refine AX.map (fun _ k_ => AW.iald2 dL_law_981 rfl hs (sc_in (q := 2) (by omega) hn) (sc_at (q := 2) (by omega) hn) rfl k_) ?_
  refine AX.map (fun _ k_ => AW.aload_n dL_law_982 rfl rfl k_) ?_
  refine AX.map (fun _ k_ => AW.iload_n dL_law_983 rfl rfl k_) ?_
  refine AX.map (fun _ k_ => AW.iconst (v := 3) dL_law_984 (by decide) rfl k_) ?_
  refine AX.map (fun _ k_ => AW.iadd dL_law_985 rfl k_) ?_
  refine AX.map (fun _ k_ => AW.iald2 dL_law_986 rfl hs (sc_in (q := 3) (by omega) hn) (sc_at (q := 3) (by omega) hn) rfl k_) ?_
  refine AX.map (fun _ k_ => AW.if_eq (tgt := 994) dL_law_987 (by decide) rfl (fun _ => k_) (fun c_ => absurd z c_)) ?_
  refine AX.map (fun _ k_ => AW.iconst (v := 0) dL_law_994 (by decide) rfl k_) ?_
  refine AX.map (fun _ k_ => AW.callV (Y := mX0_sets) (n := 3) (xr) (by omega) (by decide) rfl gX q1189 q1190 q1191 q138 q1192 dL_law_995 (by decide +kernel) rfl rfl (Nat.le_of_ble_eq_true rfl) rfl k_) ?_
  have ht : (hp t).g 500 = some (sc n f) := g300 (t3.trans hg)
  refine AX.map (fun _ k_ => AW.aload_n dL_law_998 rfl rfl k_) ?_
  refine AX.map (fun _ k_ => AW.aload_n dL_law_999 rfl rfl k_) ?_
  refine AX.map (fun _ k_ => AW.iload_n dL_law_1000 rfl rfl k_) ?_
  refine AX.map (fun _ k_ => AW.iconst (v := 1) dL_law_1001 (by decide) rfl k_) ?_
  refine AX.map (fun _ k_ => AW.iadd dL_law_1002 rfl k_) ?_
  refine AX.map (fun _ k_ => AW.iald2 dL_law_1003 rfl ht (sc_in (q := 1) (by omega) hn) (sc_at (q := 1) (by omega) hn) rfl k_) ?_
  refine AX.map (fun _ k_ => AW.aload_n dL_law_1004 rfl rfl k_) ?_
  refine AX.map (fun _ k_ => AW.iload_n dL_law_1005 rfl rfl k_) ?_
  refine AX.map (fun _ k_ => AW.iconst (v := 2) dL_law_1006 (by decide) rfl k_) ?_
  refine AX.map (fun _ k_ => AW.iadd dL_law_1007 rfl k_) ?_
  refine AX.map (fun _ k_ => AW.iald2 dL_law_1008 rfl ht (sc_in (q := 2) (by omega) hn) (sc_at (q := 2) (by omega) hn) rfl k_) ?_
  refine AX.map (fun _ k_ => AW.aload_n dL_law_1009 rfl rfl k_) ?_
  refine AX.map (fun _ k_ => AW.iload_n dL_law_1010 rfl rfl k_) ?_
  refine AX.map (fun _ k_ => AW.iconst (v := 3) dL_law_1011 (by decide) rfl k_) ?_
  refine AX.map (fun _ k_ => AW.iadd dL_law_1012 rfl k_) ?_
  refine AX.map (fun _ k_ => AW.iald2 dL_law_1013 rfl ht (sc_in (q := 3) (by omega) hn) (sc_at (q := 3) (by omega) hn) rfl k_) ?_
  refine AX.map (fun _ k_ => AW.if_eq (tgt := 1021) dL_law_1014 (by decide) rfl (fun _ => k_) (fun c_ => absurd z c_)) ?_
  refine AX.map (fun _ k_ => AW.iconst (v := 0) dL_law_1021 (by decide) rfl k_) ?_
  refine AX.map (fun _ k_ => AW.callV (Y := mX2_sets) (n := 3) (mr) (by omega) (by decide) rfl gM q1893 q1894 q1895 q141 q1896 dL_law_1022 (by decide +kernel) rfl rfl (Nat.le_of_ble_eq_true rfl) rfl k_) ?_
  refine AX.map (fun _ k_ => AW.icmp_eq (tgt := 1591) dL_law_1025 (by decide) rfl (fun _ => k_) (fun c_ => absurd rfl c_)) ?_
  exact kk v nx
theorem lc_odds_t (h : Inv s) (hg : s.b.g 500 = some (sc n f)) (hm : m + 6 ≤ n) (hn : n ≤ 384) (z : ¬ f (m + 4) = 0) (kk : ∀ v, Nxt s v → AX Q 140 mL_law (hp v) 1591 [some (.ref 500), some (.ref 512), some (.ref 625), some (.int (nI m))] [] o) : AX Q 140 mL_law (hp s) 1030 [some (.ref 500), some (.ref 512), some (.ref 625), some (.int (nI m))] [] o := by
  obtain ⟨dx, dm, r, t, v, hd, xr, mr, nx, t3⟩ := b_odds h (f (m + 1)) (f (m + 2)) (f (m + 3)) true
  have hs := g300 hg
  refine AX.map (fun _ k_ => AW.aload_n dL_law_1030 rfl rfl k_) ?_
  refine AX.map (fun _ k_ => AW.aload_n dL_law_1031 rfl rfl k_) ?_
  refine AX.map (fun _ k_ => AW.iload_n dL_law_1032 rfl rfl k_) ?_
  refine AX.map (fun _ k_ => AW.iconst (v := 1) dL_law_1033 (by decide) rfl k_) ?_
  refine AX.map (fun _ k_ => AW.iadd dL_law_1034 rfl k_) ?_
  refine AX.map (fun _ k_ => AW.iald2 dL_law_1035 rfl hs (sc_in (q := 1) (by omega) hn) (sc_at (q := 1) (by omega) hn) rfl k_) ?_
  refine AX.map (fun _ k_ => AW.aload_n dL_law_1036 rfl rfl k_) ?_
  refine AX.map (fun _ k_ => AW.iload_n dL_law_1037 rfl rfl k_) ?_
  refine AX.map (fun _ k_ => AW.iconst (v := 2) dL_law_1038 (by decide) rfl k_) ?_
  refine AX.map (fun _ k_ => AW.iadd dL_law_1039 rfl k_) ?_
  refine AX.map (fun _ k_ => AW.iald2 dL_law_1040 rfl hs (sc_in (q := 2) (by omega) hn) (sc_at (q := 2) (by omega) hn) rfl k_) ?_
  refine AX.map (fun _ k_ => AW.aload_n dL_law_1041 rfl rfl k_) ?_
  refine AX.map (fun _ k_ => AW.iload_n dL_law_1042 rfl rfl k_) ?_
  refine AX.map (fun _ k_ => AW.iconst (v := 3) dL_law_1043 (by decide) rfl k_) ?_
  refine AX.map (fun _ k_ => AW.iadd dL_law_1044 rfl k_) ?_
  refine AX.map (fun _ k_ => AW.iald2 dL_law_1045 rfl hs (sc_in (q := 3) (by omega) hn) (sc_at (q := 3) (by omega) hn) rfl k_) ?_
  refine AX.map (fun _ k_ => AW.aload_n dL_law_1046 rfl rfl k_) ?_
  refine AX.map (fun _ k_ => AW.iload_n dL_law_1047 rfl rfl k_) ?_
  refine AX.map (fun _ k_ => AW.iconst (v := 4) dL_law_1048 (by decide) rfl k_) ?_
  refine AX.map (fun _ k_ => AW.iadd dL_law_1049 rfl k_) ?_
  refine AX.map (fun _ k_ => AW.iald2 dL_law_1050 rfl hs (sc_in (q := 4) (by omega) hn) (sc_at (q := 4) (by omega) hn) rfl k_) ?_
  refine AX.map (fun _ k_ => AW.if_eq (tgt := 1058) dL_law_1051 (by decide) rfl (fun c_ => absurd c_ z) (fun _ => k_)) ?_
  refine AX.map (fun _ k_ => AW.iconst (v := 1) dL_law_1054 (by decide) rfl k_) ?_
  refine AX.map (fun _ k_ => AW.goto (tgt := 1059) dL_law_1055 (by decide) k_) ?_
  refine AX.map (fun _ k_ => AW.callV (Y := mX0_odds) (n := 4) (xr) (by omega) (by decide) rfl gX q1204 q1205 q1206 q138 q1207 dL_law_1059 (by decide +kernel) rfl rfl (Nat.le_of_ble_eq_true rfl) rfl k_) ?_
  have ht : (hp t).g 500 = some (sc n f) := g300 (t3.trans hg)
  refine AX.map (fun _ k_ => AW.aload_n dL_law_1062 rfl rfl k_) ?_
  refine AX.map (fun _ k_ => AW.aload_n dL_law_1063 rfl rfl k_) ?_
  refine AX.map (fun _ k_ => AW.iload_n dL_law_1064 rfl rfl k_) ?_
  refine AX.map (fun _ k_ => AW.iconst (v := 1) dL_law_1065 (by decide) rfl k_) ?_
  refine AX.map (fun _ k_ => AW.iadd dL_law_1066 rfl k_) ?_
  refine AX.map (fun _ k_ => AW.iald2 dL_law_1067 rfl ht (sc_in (q := 1) (by omega) hn) (sc_at (q := 1) (by omega) hn) rfl k_) ?_
  refine AX.map (fun _ k_ => AW.aload_n dL_law_1068 rfl rfl k_) ?_
  refine AX.map (fun _ k_ => AW.iload_n dL_law_1069 rfl rfl k_) ?_
  refine AX.map (fun _ k_ => AW.iconst (v := 2) dL_law_1070 (by decide) rfl k_) ?_
  refine AX.map (fun _ k_ => AW.iadd dL_law_1071 rfl k_) ?_
  refine AX.map (fun _ k_ => AW.iald2 dL_law_1072 rfl ht (sc_in (q := 2) (by omega) hn) (sc_at (q := 2) (by omega) hn) rfl k_) ?_
  refine AX.map (fun _ k_ => AW.aload_n dL_law_1073 rfl rfl k_) ?_
  refine AX.map (fun _ k_ => AW.iload_n dL_law_1074 rfl rfl k_) ?_
  refine AX.map (fun _ k_ => AW.iconst (v := 3) dL_law_1075 (by decide) rfl k_) ?_
  refine AX.map (fun _ k_ => AW.iadd dL_law_1076 rfl k_) ?_
  refine AX.map (fun _ k_ => AW.iald2 dL_law_1077 rfl ht (sc_in (q := 3) (by omega) hn) (sc_at (q := 3) (by omega) hn) rfl k_) ?_
  refine AX.map (fun _ k_ => AW.aload_n dL_law_1078 rfl rfl k_) ?_
  refine AX.map (fun _ k_ => AW.iload_n dL_law_1079 rfl rfl k_) ?_
  refine AX.map (fun _ k_ => AW.iconst (v := 4) dL_law_1080 (by decide) rfl k_) ?_
  refine AX.map (fun _ k_ => AW.iadd dL_law_1081 rfl k_) ?_
  refine AX.map (fun _ k_ => AW.iald2 dL_law_1082 rfl ht (sc_in (q := 4) (by omega) hn) (sc_at (q := 4) (by omega) hn) rfl k_) ?_
  refine AX.map (fun _ k_ => AW.if_eq (tgt := 1090) dL_law_1083 (by decide) rfl (fun c_ => absurd c_ z) (fun _ => k_)) ?_
  refine AX.map (fun _ k_ => AW.iconst (v := 1) dL_law_1086 (by decide) rfl k_) ?_
  refine AX.map (fun _ k_ => AW.goto (tgt := 1091) dL_law_1087 (by decide) k_) ?_
  refine AX.map (fun _ k_ => AW.callV (Y := mX2_odds) (n := 4) (mr) (by omega) (by decide) rfl gM q1910 q1911 q1912 q141 q1913 dL_law_1091 (by decide +kernel) rfl rfl (Nat.le_of_ble_eq_true rfl) rfl k_) ?_
  refine AX.map (fun _ k_ => AW.icmp_eq (tgt := 1591) dL_law_1094 (by decide) rfl (fun _ => k_) (fun c_ => absurd rfl c_)) ?_
  exact kk v nx
theorem lc_odds_f (h : Inv s) (hg : s.b.g 500 = some (sc n f)) (hm : m + 6 ≤ n) (hn : n ≤ 384) (z : f (m + 4) = 0) (kk : ∀ v, Nxt s v → AX Q 140 mL_law (hp v) 1591 [some (.ref 500), some (.ref 512), some (.ref 625), some (.int (nI m))] [] o) : AX Q 140 mL_law (hp s) 1030 [some (.ref 500), some (.ref 512), some (.ref 625), some (.int (nI m))] [] o := by
  obtain ⟨dx, dm, r, t, v, hd, xr, mr, nx, t3⟩ := b_odds h (f (m + 1)) (f (m + 2)) (f (m + 3)) false
  have hs := g300 hg
  refine AX.map (fun _ k_ => AW.aload_n dL_law_1030 rfl rfl k_) ?_
  refine AX.map (fun _ k_ => AW.aload_n dL_law_1031 rfl rfl k_) ?_
  refine AX.map (fun _ k_ => AW.iload_n dL_law_1032 rfl rfl k_) ?_
  refine AX.map (fun _ k_ => AW.iconst (v := 1) dL_law_1033 (by decide) rfl k_) ?_
  refine AX.map (fun _ k_ => AW.iadd dL_law_1034 rfl k_) ?_
  refine AX.map (fun _ k_ => AW.iald2 dL_law_1035 rfl hs (sc_in (q := 1) (by omega) hn) (sc_at (q := 1) (by omega) hn) rfl k_) ?_
  refine AX.map (fun _ k_ => AW.aload_n dL_law_1036 rfl rfl k_) ?_
  refine AX.map (fun _ k_ => AW.iload_n dL_law_1037 rfl rfl k_) ?_
  refine AX.map (fun _ k_ => AW.iconst (v := 2) dL_law_1038 (by decide) rfl k_) ?_
  refine AX.map (fun _ k_ => AW.iadd dL_law_1039 rfl k_) ?_
  refine AX.map (fun _ k_ => AW.iald2 dL_law_1040 rfl hs (sc_in (q := 2) (by omega) hn) (sc_at (q := 2) (by omega) hn) rfl k_) ?_
  refine AX.map (fun _ k_ => AW.aload_n dL_law_1041 rfl rfl k_) ?_
  refine AX.map (fun _ k_ => AW.iload_n dL_law_1042 rfl rfl k_) ?_
  refine AX.map (fun _ k_ => AW.iconst (v := 3) dL_law_1043 (by decide) rfl k_) ?_
  refine AX.map (fun _ k_ => AW.iadd dL_law_1044 rfl k_) ?_
  refine AX.map (fun _ k_ => AW.iald2 dL_law_1045 rfl hs (sc_in (q := 3) (by omega) hn) (sc_at (q := 3) (by omega) hn) rfl k_) ?_
  refine AX.map (fun _ k_ => AW.aload_n dL_law_1046 rfl rfl k_) ?_
  refine AX.map (fun _ k_ => AW.iload_n dL_law_1047 rfl rfl k_) ?_
  refine AX.map (fun _ k_ => AW.iconst (v := 4) dL_law_1048 (by decide) rfl k_) ?_
  refine AX.map (fun _ k_ => AW.iadd dL_law_1049 rfl k_) ?_
  refine AX.map (fun _ k_ => AW.iald2 dL_law_1050 rfl hs (sc_in (q := 4) (by omega) hn) (sc_at (q := 4) (by omega) hn) rfl k_) ?_
  refine AX.map (fun _ k_ => AW.if_eq (tgt := 1058) dL_law_1051 (by decide) rfl (fun _ => k_) (fun c_ => absurd z c_)) ?_
  refine AX.map (fun _ k_ => AW.iconst (v := 0) dL_law_1058 (by decide) rfl k_) ?_
  refine AX.map (fun _ k_ => AW.callV (Y := mX0_odds) (n := 4) (xr) (by omega) (by decide) rfl gX q1204 q1205 q1206 q138 q1207 dL_law_1059 (by decide +kernel) rfl rfl (Nat.le_of_ble_eq_true rfl) rfl k_) ?_
  have ht : (hp t).g 500 = some (sc n f) := g300 (t3.trans hg)
  refine AX.map (fun _ k_ => AW.aload_n dL_law_1062 rfl rfl k_) ?_
  refine AX.map (fun _ k_ => AW.aload_n dL_law_1063 rfl rfl k_) ?_
  refine AX.map (fun _ k_ => AW.iload_n dL_law_1064 rfl rfl k_) ?_
  refine AX.map (fun _ k_ => AW.iconst (v := 1) dL_law_1065 (by decide) rfl k_) ?_
  refine AX.map (fun _ k_ => AW.iadd dL_law_1066 rfl k_) ?_
  refine AX.map (fun _ k_ => AW.iald2 dL_law_1067 rfl ht (sc_in (q := 1) (by omega) hn) (sc_at (q := 1) (by omega) hn) rfl k_) ?_
  refine AX.map (fun _ k_ => AW.aload_n dL_law_1068 rfl rfl k_) ?_
  refine AX.map (fun _ k_ => AW.iload_n dL_law_1069 rfl rfl k_) ?_
  refine AX.map (fun _ k_ => AW.iconst (v := 2) dL_law_1070 (by decide) rfl k_) ?_
  refine AX.map (fun _ k_ => AW.iadd dL_law_1071 rfl k_) ?_
  refine AX.map (fun _ k_ => AW.iald2 dL_law_1072 rfl ht (sc_in (q := 2) (by omega) hn) (sc_at (q := 2) (by omega) hn) rfl k_) ?_
  refine AX.map (fun _ k_ => AW.aload_n dL_law_1073 rfl rfl k_) ?_
  refine AX.map (fun _ k_ => AW.iload_n dL_law_1074 rfl rfl k_) ?_
  refine AX.map (fun _ k_ => AW.iconst (v := 3) dL_law_1075 (by decide) rfl k_) ?_
  refine AX.map (fun _ k_ => AW.iadd dL_law_1076 rfl k_) ?_
  refine AX.map (fun _ k_ => AW.iald2 dL_law_1077 rfl ht (sc_in (q := 3) (by omega) hn) (sc_at (q := 3) (by omega) hn) rfl k_) ?_
  refine AX.map (fun _ k_ => AW.aload_n dL_law_1078 rfl rfl k_) ?_
  refine AX.map (fun _ k_ => AW.iload_n dL_law_1079 rfl rfl k_) ?_
  refine AX.map (fun _ k_ => AW.iconst (v := 4) dL_law_1080 (by decide) rfl k_) ?_
  refine AX.map (fun _ k_ => AW.iadd dL_law_1081 rfl k_) ?_
  refine AX.map (fun _ k_ => AW.iald2 dL_law_1082 rfl ht (sc_in (q := 4) (by omega) hn) (sc_at (q := 4) (by omega) hn) rfl k_) ?_
  refine AX.map (fun _ k_ => AW.if_eq (tgt := 1090) dL_law_1083 (by decide) rfl (fun _ => k_) (fun c_ => absurd z c_)) ?_
  refine AX.map (fun _ k_ => AW.iconst (v := 0) dL_law_1090 (by decide) rfl k_) ?_
  refine AX.map (fun _ k_ => AW.callV (Y := mX2_odds) (n := 4) (mr) (by omega) (by decide) rfl gM q1910 q1911 q1912 q141 q1913 dL_law_1091 (by decide +kernel) rfl rfl (Nat.le_of_ble_eq_true rfl) rfl k_) ?_
  refine AX.map (fun _ k_ => AW.icmp_eq (tgt := 1591) dL_law_1094 (by decide) rfl (fun _ => k_) (fun c_ => absurd rfl c_)) ?_
  exact kk v nx
theorem lc_nextKnock (h : Inv s) (hg : s.b.g 500 = some (sc n f)) (hm : m + 6 ≤ n) (hn : n ≤ 384) (kk : ∀ v, Nxt s v → AX Q 140 mL_law (hp v) 1591 [some (.ref 500), some (.ref 512), some (.ref 625), some (.int (nI m))] [] o) : AX Q 140 mL_law (hp s) 1099 [some (.ref 500), some (.ref 512), some (.ref 625), some (.int (nI m))] [] o := by
  obtain ⟨dx, dm, r, t, v, hd, xr, mr, nx, t3⟩ := b_nextKnock h (f (m + 1)) (f (m + 2))
  have hs := g300 hg
  refine AX.map (fun _ k_ => AW.aload_n dL_law_1099 rfl rfl k_) ?_
  refine AX.map (fun _ k_ => AW.aload_n dL_law_1100 rfl rfl k_) ?_
  refine AX.map (fun _ k_ => AW.iload_n dL_law_1101 rfl rfl k_) ?_
  refine AX.map (fun _ k_ => AW.iconst (v := 1) dL_law_1102 (by decide) rfl k_) ?_
  refine AX.map (fun _ k_ => AW.iadd dL_law_1103 rfl k_) ?_
  refine AX.map (fun _ k_ => AW.iald2 dL_law_1104 rfl hs (sc_in (q := 1) (by omega) hn) (sc_at (q := 1) (by omega) hn) rfl k_) ?_
  refine AX.map (fun _ k_ => AW.aload_n dL_law_1105 rfl rfl k_) ?_
  refine AX.map (fun _ k_ => AW.iload_n dL_law_1106 rfl rfl k_) ?_
  refine AX.map (fun _ k_ => AW.iconst (v := 2) dL_law_1107 (by decide) rfl k_) ?_
  refine AX.map (fun _ k_ => AW.iadd dL_law_1108 rfl k_) ?_
  refine AX.map (fun _ k_ => AW.iald2 dL_law_1109 rfl hs (sc_in (q := 2) (by omega) hn) (sc_at (q := 2) (by omega) hn) rfl k_) ?_
  refine AX.map (fun _ k_ => AW.callV (Y := mX0_nextKnock) (n := 2) (xr) (by omega) (by decide) rfl gX q1211 q1212 q1213 q138 q1214 dL_law_1110 (by decide +kernel) rfl rfl (Nat.le_of_ble_eq_true rfl) rfl k_) ?_
  have ht : (hp t).g 500 = some (sc n f) := g300 (t3.trans hg)
  refine AX.map (fun _ k_ => AW.aload_n dL_law_1113 rfl rfl k_) ?_
  refine AX.map (fun _ k_ => AW.aload_n dL_law_1114 rfl rfl k_) ?_
  refine AX.map (fun _ k_ => AW.iload_n dL_law_1115 rfl rfl k_) ?_
  refine AX.map (fun _ k_ => AW.iconst (v := 1) dL_law_1116 (by decide) rfl k_) ?_
  refine AX.map (fun _ k_ => AW.iadd dL_law_1117 rfl k_) ?_
  refine AX.map (fun _ k_ => AW.iald2 dL_law_1118 rfl ht (sc_in (q := 1) (by omega) hn) (sc_at (q := 1) (by omega) hn) rfl k_) ?_
  refine AX.map (fun _ k_ => AW.aload_n dL_law_1119 rfl rfl k_) ?_
  refine AX.map (fun _ k_ => AW.iload_n dL_law_1120 rfl rfl k_) ?_
  refine AX.map (fun _ k_ => AW.iconst (v := 2) dL_law_1121 (by decide) rfl k_) ?_
  refine AX.map (fun _ k_ => AW.iadd dL_law_1122 rfl k_) ?_
  refine AX.map (fun _ k_ => AW.iald2 dL_law_1123 rfl ht (sc_in (q := 2) (by omega) hn) (sc_at (q := 2) (by omega) hn) rfl k_) ?_
  refine AX.map (fun _ k_ => AW.callV (Y := mX2_nextKnock) (n := 2) (mr) (by omega) (by decide) rfl gM q1917 q1918 q1919 q141 q1920 dL_law_1124 (by decide +kernel) rfl rfl (Nat.le_of_ble_eq_true rfl) rfl k_) ?_
  refine AX.map (fun _ k_ => AW.icmp_eq (tgt := 1591) dL_law_1127 (by decide) rfl (fun _ => k_) (fun c_ => absurd rfl c_)) ?_
  exact kk v nx
theorem lc_thieves_t (h : Inv s) (hg : s.b.g 500 = some (sc n f)) (hm : m + 6 ≤ n) (hn : n ≤ 384) (z : ¬ f (m + 3) = 0) (kk : ∀ v, Nxt s v → AX Q 140 mL_law (hp v) 1591 [some (.ref 500), some (.ref 512), some (.ref 625), some (.int (nI m))] [] o) : AX Q 140 mL_law (hp s) 1132 [some (.ref 500), some (.ref 512), some (.ref 625), some (.int (nI m))] [] o := by
  obtain ⟨dx, dm, r, t, v, hd, xr, mr, nx, t3⟩ := b_thieves h (f (m + 1)) (f (m + 2)) true
  have hs := g300 hg
  refine AX.map (fun _ k_ => AW.aload_n dL_law_1132 rfl rfl k_) ?_
  refine AX.map (fun _ k_ => AW.aload_n dL_law_1133 rfl rfl k_) ?_
  refine AX.map (fun _ k_ => AW.iload_n dL_law_1134 rfl rfl k_) ?_
  refine AX.map (fun _ k_ => AW.iconst (v := 1) dL_law_1135 (by decide) rfl k_) ?_
  refine AX.map (fun _ k_ => AW.iadd dL_law_1136 rfl k_) ?_
  refine AX.map (fun _ k_ => AW.iald2 dL_law_1137 rfl hs (sc_in (q := 1) (by omega) hn) (sc_at (q := 1) (by omega) hn) rfl k_) ?_
  refine AX.map (fun _ k_ => AW.aload_n dL_law_1138 rfl rfl k_) ?_
  refine AX.map (fun _ k_ => AW.iload_n dL_law_1139 rfl rfl k_) ?_
  refine AX.map (fun _ k_ => AW.iconst (v := 2) dL_law_1140 (by decide) rfl k_) ?_
  refine AX.map (fun _ k_ => AW.iadd dL_law_1141 rfl k_) ?_
  refine AX.map (fun _ k_ => AW.iald2 dL_law_1142 rfl hs (sc_in (q := 2) (by omega) hn) (sc_at (q := 2) (by omega) hn) rfl k_) ?_
  refine AX.map (fun _ k_ => AW.aload_n dL_law_1143 rfl rfl k_) ?_
  refine AX.map (fun _ k_ => AW.iload_n dL_law_1144 rfl rfl k_) ?_
  refine AX.map (fun _ k_ => AW.iconst (v := 3) dL_law_1145 (by decide) rfl k_) ?_
  refine AX.map (fun _ k_ => AW.iadd dL_law_1146 rfl k_) ?_
  refine AX.map (fun _ k_ => AW.iald2 dL_law_1147 rfl hs (sc_in (q := 3) (by omega) hn) (sc_at (q := 3) (by omega) hn) rfl k_) ?_
  refine AX.map (fun _ k_ => AW.if_eq (tgt := 1155) dL_law_1148 (by decide) rfl (fun c_ => absurd c_ z) (fun _ => k_)) ?_
  refine AX.map (fun _ k_ => AW.iconst (v := 1) dL_law_1151 (by decide) rfl k_) ?_
  refine AX.map (fun _ k_ => AW.goto (tgt := 1156) dL_law_1152 (by decide) k_) ?_
  refine AX.map (fun _ k_ => AW.callV (Y := mX0_thieves) (n := 3) (xr) (by omega) (by decide) rfl gX q1218 q1219 q1220 q138 q1221 dL_law_1156 (by decide +kernel) rfl rfl (Nat.le_of_ble_eq_true rfl) rfl k_) ?_
  have ht : (hp t).g 500 = some (sc n f) := g300 (t3.trans hg)
  refine AX.map (fun _ k_ => AW.aload_n dL_law_1159 rfl rfl k_) ?_
  refine AX.map (fun _ k_ => AW.aload_n dL_law_1160 rfl rfl k_) ?_
  refine AX.map (fun _ k_ => AW.iload_n dL_law_1161 rfl rfl k_) ?_
  refine AX.map (fun _ k_ => AW.iconst (v := 1) dL_law_1162 (by decide) rfl k_) ?_
  refine AX.map (fun _ k_ => AW.iadd dL_law_1163 rfl k_) ?_
  refine AX.map (fun _ k_ => AW.iald2 dL_law_1164 rfl ht (sc_in (q := 1) (by omega) hn) (sc_at (q := 1) (by omega) hn) rfl k_) ?_
  refine AX.map (fun _ k_ => AW.aload_n dL_law_1165 rfl rfl k_) ?_
  refine AX.map (fun _ k_ => AW.iload_n dL_law_1166 rfl rfl k_) ?_
  refine AX.map (fun _ k_ => AW.iconst (v := 2) dL_law_1167 (by decide) rfl k_) ?_
  refine AX.map (fun _ k_ => AW.iadd dL_law_1168 rfl k_) ?_
  refine AX.map (fun _ k_ => AW.iald2 dL_law_1169 rfl ht (sc_in (q := 2) (by omega) hn) (sc_at (q := 2) (by omega) hn) rfl k_) ?_
  refine AX.map (fun _ k_ => AW.aload_n dL_law_1170 rfl rfl k_) ?_
  refine AX.map (fun _ k_ => AW.iload_n dL_law_1171 rfl rfl k_) ?_
  refine AX.map (fun _ k_ => AW.iconst (v := 3) dL_law_1172 (by decide) rfl k_) ?_
  refine AX.map (fun _ k_ => AW.iadd dL_law_1173 rfl k_) ?_
  refine AX.map (fun _ k_ => AW.iald2 dL_law_1174 rfl ht (sc_in (q := 3) (by omega) hn) (sc_at (q := 3) (by omega) hn) rfl k_) ?_
  refine AX.map (fun _ k_ => AW.if_eq (tgt := 1182) dL_law_1175 (by decide) rfl (fun c_ => absurd c_ z) (fun _ => k_)) ?_
  refine AX.map (fun _ k_ => AW.iconst (v := 1) dL_law_1178 (by decide) rfl k_) ?_
  refine AX.map (fun _ k_ => AW.goto (tgt := 1183) dL_law_1179 (by decide) k_) ?_
  refine AX.map (fun _ k_ => AW.callV (Y := mX2_thieves) (n := 3) (mr) (by omega) (by decide) rfl gM q1922 q1923 q1924 q141 q1925 dL_law_1183 (by decide +kernel) rfl rfl (Nat.le_of_ble_eq_true rfl) rfl k_) ?_
  refine AX.map (fun _ k_ => AW.icmp_eq (tgt := 1591) dL_law_1186 (by decide) rfl (fun _ => k_) (fun c_ => absurd rfl c_)) ?_
  exact kk v nx
theorem lc_thieves_f (h : Inv s) (hg : s.b.g 500 = some (sc n f)) (hm : m + 6 ≤ n) (hn : n ≤ 384) (z : f (m + 3) = 0) (kk : ∀ v, Nxt s v → AX Q 140 mL_law (hp v) 1591 [some (.ref 500), some (.ref 512), some (.ref 625), some (.int (nI m))] [] o) : AX Q 140 mL_law (hp s) 1132 [some (.ref 500), some (.ref 512), some (.ref 625), some (.int (nI m))] [] o := by
  obtain ⟨dx, dm, r, t, v, hd, xr, mr, nx, t3⟩ := b_thieves h (f (m + 1)) (f (m + 2)) false
  have hs := g300 hg
  refine AX.map (fun _ k_ => AW.aload_n dL_law_1132 rfl rfl k_) ?_
  refine AX.map (fun _ k_ => AW.aload_n dL_law_1133 rfl rfl k_) ?_
  refine AX.map (fun _ k_ => AW.iload_n dL_law_1134 rfl rfl k_) ?_
  refine AX.map (fun _ k_ => AW.iconst (v := 1) dL_law_1135 (by decide) rfl k_) ?_
  refine AX.map (fun _ k_ => AW.iadd dL_law_1136 rfl k_) ?_
  refine AX.map (fun _ k_ => AW.iald2 dL_law_1137 rfl hs (sc_in (q := 1) (by omega) hn) (sc_at (q := 1) (by omega) hn) rfl k_) ?_
  refine AX.map (fun _ k_ => AW.aload_n dL_law_1138 rfl rfl k_) ?_
  refine AX.map (fun _ k_ => AW.iload_n dL_law_1139 rfl rfl k_) ?_
  refine AX.map (fun _ k_ => AW.iconst (v := 2) dL_law_1140 (by decide) rfl k_) ?_
  refine AX.map (fun _ k_ => AW.iadd dL_law_1141 rfl k_) ?_
  refine AX.map (fun _ k_ => AW.iald2 dL_law_1142 rfl hs (sc_in (q := 2) (by omega) hn) (sc_at (q := 2) (by omega) hn) rfl k_) ?_
  refine AX.map (fun _ k_ => AW.aload_n dL_law_1143 rfl rfl k_) ?_
  refine AX.map (fun _ k_ => AW.iload_n dL_law_1144 rfl rfl k_) ?_
  refine AX.map (fun _ k_ => AW.iconst (v := 3) dL_law_1145 (by decide) rfl k_) ?_
  refine AX.map (fun _ k_ => AW.iadd dL_law_1146 rfl k_) ?_
  refine AX.map (fun _ k_ => AW.iald2 dL_law_1147 rfl hs (sc_in (q := 3) (by omega) hn) (sc_at (q := 3) (by omega) hn) rfl k_) ?_
  refine AX.map (fun _ k_ => AW.if_eq (tgt := 1155) dL_law_1148 (by decide) rfl (fun _ => k_) (fun c_ => absurd z c_)) ?_
  refine AX.map (fun _ k_ => AW.iconst (v := 0) dL_law_1155 (by decide) rfl k_) ?_
  refine AX.map (fun _ k_ => AW.callV (Y := mX0_thieves) (n := 3) (xr) (by omega) (by decide) rfl gX q1218 q1219 q1220 q138 q1221 dL_law_1156 (by decide +kernel) rfl rfl (Nat.le_of_ble_eq_true rfl) rfl k_) ?_
  have ht : (hp t).g 500 = some (sc n f) := g300 (t3.trans hg)
  refine AX.map (fun _ k_ => AW.aload_n dL_law_1159 rfl rfl k_) ?_
  refine AX.map (fun _ k_ => AW.aload_n dL_law_1160 rfl rfl k_) ?_
  refine AX.map (fun _ k_ => AW.iload_n dL_law_1161 rfl rfl k_) ?_
  refine AX.map (fun _ k_ => AW.iconst (v := 1) dL_law_1162 (by decide) rfl k_) ?_
  refine AX.map (fun _ k_ => AW.iadd dL_law_1163 rfl k_) ?_
  refine AX.map (fun _ k_ => AW.iald2 dL_law_1164 rfl ht (sc_in (q := 1) (by omega) hn) (sc_at (q := 1) (by omega) hn) rfl k_) ?_
  refine AX.map (fun _ k_ => AW.aload_n dL_law_1165 rfl rfl k_) ?_
  refine AX.map (fun _ k_ => AW.iload_n dL_law_1166 rfl rfl k_) ?_
  refine AX.map (fun _ k_ => AW.iconst (v := 2) dL_law_1167 (by decide) rfl k_) ?_
  refine AX.map (fun _ k_ => AW.iadd dL_law_1168 rfl k_) ?_
  refine AX.map (fun _ k_ => AW.iald2 dL_law_1169 rfl ht (sc_in (q := 2) (by omega) hn) (sc_at (q := 2) (by omega) hn) rfl k_) ?_
  refine AX.map (fun _ k_ => AW.aload_n dL_law_1170 rfl rfl k_) ?_
  refine AX.map (fun _ k_ => AW.iload_n dL_law_1171 rfl rfl k_) ?_
  refine AX.map (fun _ k_ => AW.iconst (v := 3) dL_law_1172 (by decide) rfl k_) ?_
  refine AX.map (fun _ k_ => AW.iadd dL_law_1173 rfl k_) ?_
  refine AX.map (fun _ k_ => AW.iald2 dL_law_1174 rfl ht (sc_in (q := 3) (by omega) hn) (sc_at (q := 3) (by omega) hn) rfl k_) ?_
  refine AX.map (fun _ k_ => AW.if_eq (tgt := 1182) dL_law_1175 (by decide) rfl (fun _ => k_) (fun c_ => absurd z c_)) ?_
  refine AX.map (fun _ k_ => AW.iconst (v := 0) dL_law_1182 (by decide) rfl k_) ?_
  refine AX.map (fun _ k_ => AW.callV (Y := mX2_thieves) (n := 3) (mr) (by omega) (by decide) rfl gM q1922 q1923 q1924 q141 q1925 dL_law_1183 (by decide +kernel) rfl rfl (Nat.le_of_ble_eq_true rfl) rfl k_) ?_
  refine AX.map (fun _ k_ => AW.icmp_eq (tgt := 1591) dL_law_1186 (by decide) rfl (fun _ => k_) (fun c_ => absurd rfl c_)) ?_
  exact kk v nx
theorem lc_night (h : Inv s) (hg : s.b.g 500 = some (sc n f)) (hm : m + 6 ≤ n) (hn : n ≤ 384) (kk : ∀ v, Nxt s v → AX Q 140 mL_law (hp v) 1591 [some (.ref 500), some (.ref 512), some (.ref 625), some (.int (nI m))] [] o) : AX Q 140 mL_law (hp s) 1191 [some (.ref 500), some (.ref 512), some (.ref 625), some (.int (nI m))] [] o := by
  obtain ⟨dx, dm, r, t, v, hd, xr, mr, nx, t3⟩ := b_night h (f (m + 1))
  have hs := g300 hg
  refine AX.map (fun _ k_ => AW.aload_n dL_law_1191 rfl rfl k_) ?_
  refine AX.map (fun _ k_ => AW.aload_n dL_law_1192 rfl rfl k_) ?_
  refine AX.map (fun _ k_ => AW.iload_n dL_law_1193 rfl rfl k_) ?_
  refine AX.map (fun _ k_ => AW.iconst (v := 1) dL_law_1194 (by decide) rfl k_) ?_
  refine AX.map (fun _ k_ => AW.iadd dL_law_1195 rfl k_) ?_
  refine AX.map (fun _ k_ => AW.iald2 dL_law_1196 rfl hs (sc_in (q := 1) (by omega) hn) (sc_at (q := 1) (by omega) hn) rfl k_) ?_
  refine AX.map (fun _ k_ => AW.callV (Y := mX0_night) (n := 1) (xr) (by omega) (by decide) rfl gX q1234 q1235 q1236 q138 q1237 dL_law_1197 (by decide +kernel) rfl rfl (Nat.le_of_ble_eq_true rfl) rfl k_) ?_
  have ht : (hp t).g 500 = some (sc n f) := g300 (t3.trans hg)
  refine AX.map (fun _ k_ => AW.aload_n dL_law_1200 rfl rfl k_) ?_
  refine AX.map (fun _ k_ => AW.aload_n dL_law_1201 rfl rfl k_) ?_
  refine AX.map (fun _ k_ => AW.iload_n dL_law_1202 rfl rfl k_) ?_
  refine AX.map (fun _ k_ => AW.iconst (v := 1) dL_law_1203 (by decide) rfl k_) ?_
  refine AX.map (fun _ k_ => AW.iadd dL_law_1204 rfl k_) ?_
  refine AX.map (fun _ k_ => AW.iald2 dL_law_1205 rfl ht (sc_in (q := 1) (by omega) hn) (sc_at (q := 1) (by omega) hn) rfl k_) ?_
  refine AX.map (fun _ k_ => AW.callV (Y := mX2_night) (n := 1) (mr) (by omega) (by decide) rfl gM q1930 q1931 q1932 q141 q1933 dL_law_1206 (by decide +kernel) rfl rfl (Nat.le_of_ble_eq_true rfl) rfl k_) ?_
  refine AX.map (fun _ k_ => AW.icmp_eq (tgt := 1591) dL_law_1209 (by decide) rfl (fun _ => k_) (fun c_ => absurd rfl c_)) ?_
  exact kk v nx
theorem lc_appointments (h : Inv s) (hg : s.b.g 500 = some (sc n f)) (hm : m + 6 ≤ n) (hn : n ≤ 384) (kk : ∀ v, Nxt s v → AX Q 140 mL_law (hp v) 1591 [some (.ref 500), some (.ref 512), some (.ref 625), some (.int (nI m))] [] o) : AX Q 140 mL_law (hp s) 1214 [some (.ref 500), some (.ref 512), some (.ref 625), some (.int (nI m))] [] o := by
  obtain ⟨dx, dm, r, t, v, hd, xr, mr, nx, t3⟩ := b_appointments h (f (m + 1)) (f (m + 2))
  have hs := g300 hg
  refine AX.map (fun _ k_ => AW.aload_n dL_law_1214 rfl rfl k_) ?_
  refine AX.map (fun _ k_ => AW.aload_n dL_law_1215 rfl rfl k_) ?_
  refine AX.map (fun _ k_ => AW.iload_n dL_law_1216 rfl rfl k_) ?_
  refine AX.map (fun _ k_ => AW.iconst (v := 1) dL_law_1217 (by decide) rfl k_) ?_
  refine AX.map (fun _ k_ => AW.iadd dL_law_1218 rfl k_) ?_
  refine AX.map (fun _ k_ => AW.iald2 dL_law_1219 rfl hs (sc_in (q := 1) (by omega) hn) (sc_at (q := 1) (by omega) hn) rfl k_) ?_
  refine AX.map (fun _ k_ => AW.aload_n dL_law_1220 rfl rfl k_) ?_
  refine AX.map (fun _ k_ => AW.iload_n dL_law_1221 rfl rfl k_) ?_
  refine AX.map (fun _ k_ => AW.iconst (v := 2) dL_law_1222 (by decide) rfl k_) ?_
  refine AX.map (fun _ k_ => AW.iadd dL_law_1223 rfl k_) ?_
  refine AX.map (fun _ k_ => AW.iald2 dL_law_1224 rfl hs (sc_in (q := 2) (by omega) hn) (sc_at (q := 2) (by omega) hn) rfl k_) ?_
  refine AX.map (fun _ k_ => AW.callV (Y := mX0_appointments) (n := 2) (xr) (by omega) (by decide) rfl gX q1238 q1239 q1240 q138 q1241 dL_law_1225 (by decide +kernel) rfl rfl (Nat.le_of_ble_eq_true rfl) rfl k_) ?_
  have ht : (hp t).g 500 = some (sc n f) := g300 (t3.trans hg)
  refine AX.map (fun _ k_ => AW.aload_n dL_law_1228 rfl rfl k_) ?_
  refine AX.map (fun _ k_ => AW.aload_n dL_law_1229 rfl rfl k_) ?_
  refine AX.map (fun _ k_ => AW.iload_n dL_law_1230 rfl rfl k_) ?_
  refine AX.map (fun _ k_ => AW.iconst (v := 1) dL_law_1231 (by decide) rfl k_) ?_
  refine AX.map (fun _ k_ => AW.iadd dL_law_1232 rfl k_) ?_
  refine AX.map (fun _ k_ => AW.iald2 dL_law_1233 rfl ht (sc_in (q := 1) (by omega) hn) (sc_at (q := 1) (by omega) hn) rfl k_) ?_
  refine AX.map (fun _ k_ => AW.aload_n dL_law_1234 rfl rfl k_) ?_
  refine AX.map (fun _ k_ => AW.iload_n dL_law_1235 rfl rfl k_) ?_
  refine AX.map (fun _ k_ => AW.iconst (v := 2) dL_law_1236 (by decide) rfl k_) ?_
  refine AX.map (fun _ k_ => AW.iadd dL_law_1237 rfl k_) ?_
  refine AX.map (fun _ k_ => AW.iald2 dL_law_1238 rfl ht (sc_in (q := 2) (by omega) hn) (sc_at (q := 2) (by omega) hn) rfl k_) ?_
  refine AX.map (fun _ k_ => AW.callV (Y := mX2_appointments) (n := 2) (mr) (by omega) (by decide) rfl gM q1934 q1935 q1936 q141 q1937 dL_law_1239 (by decide +kernel) rfl rfl (Nat.le_of_ble_eq_true rfl) rfl k_) ?_
  refine AX.map (fun _ k_ => AW.icmp_eq (tgt := 1591) dL_law_1242 (by decide) rfl (fun _ => k_) (fun c_ => absurd rfl c_)) ?_
  exact kk v nx
theorem lc_rounds (h : Inv s) (hg : s.b.g 500 = some (sc n f)) (hm : m + 6 ≤ n) (hn : n ≤ 384) (kk : ∀ v, Nxt s v → AX Q 140 mL_law (hp v) 1591 [some (.ref 500), some (.ref 512), some (.ref 625), some (.int (nI m))] [] o) : AX Q 140 mL_law (hp s) 1247 [some (.ref 500), some (.ref 512), some (.ref 625), some (.int (nI m))] [] o := by
  obtain ⟨dx, dm, r, t, v, hd, xr, mr, nx, t3⟩ := b_rounds h
  have hs := g300 hg
  refine AX.map (fun _ k_ => AW.aload_n dL_law_1247 rfl rfl k_) ?_
  refine AX.map (fun _ k_ => AW.callV (Y := mX0_rounds) (n := 0) (xr) (by omega) (by decide) rfl gX q1250 q1251 q1252 q138 q1253 dL_law_1248 (by decide +kernel) rfl rfl (Nat.le_of_ble_eq_true rfl) rfl k_) ?_
  refine AX.map (fun _ k_ => AW.aload_n dL_law_1251 rfl rfl k_) ?_
  refine AX.map (fun _ k_ => AW.callV (Y := mX2_rounds) (n := 0) (mr) (by omega) (by decide) rfl gM q1950 q1951 q1952 q141 q1953 dL_law_1252 (by decide +kernel) rfl rfl (Nat.le_of_ble_eq_true rfl) rfl k_) ?_
  refine AX.map (fun _ k_ => AW.icmp_eq (tgt := 1591) dL_law_1255 (by decide) rfl (fun _ => k_) (fun c_ => absurd rfl c_)) ?_
  exact kk v nx
theorem lc_weddings (h : Inv s) (hg : s.b.g 500 = some (sc n f)) (hm : m + 6 ≤ n) (hn : n ≤ 384) (kk : ∀ v, Nxt s v → AX Q 140 mL_law (hp v) 1591 [some (.ref 500), some (.ref 512), some (.ref 625), some (.int (nI m))] [] o) : AX Q 140 mL_law (hp s) 1260 [some (.ref 500), some (.ref 512), some (.ref 625), some (.int (nI m))] [] o := by
  obtain ⟨dx, dm, r, t, v, hd, xr, mr, nx, t3⟩ := b_weddings h (f (m + 1))
  have hs := g300 hg
  refine AX.map (fun _ k_ => AW.aload_n dL_law_1260 rfl rfl k_) ?_
  refine AX.map (fun _ k_ => AW.aload_n dL_law_1261 rfl rfl k_) ?_
  refine AX.map (fun _ k_ => AW.iload_n dL_law_1262 rfl rfl k_) ?_
  refine AX.map (fun _ k_ => AW.iconst (v := 1) dL_law_1263 (by decide) rfl k_) ?_
  refine AX.map (fun _ k_ => AW.iadd dL_law_1264 rfl k_) ?_
  refine AX.map (fun _ k_ => AW.iald2 dL_law_1265 rfl hs (sc_in (q := 1) (by omega) hn) (sc_at (q := 1) (by omega) hn) rfl k_) ?_
  refine AX.map (fun _ k_ => AW.callV (Y := mX0_weddings) (n := 1) (xr) (by omega) (by decide) rfl gX q1262 q1263 q1264 q138 q1265 dL_law_1266 (by decide +kernel) rfl rfl (Nat.le_of_ble_eq_true rfl) rfl k_) ?_
  have ht : (hp t).g 500 = some (sc n f) := g300 (t3.trans hg)
  refine AX.map (fun _ k_ => AW.aload_n dL_law_1269 rfl rfl k_) ?_
  refine AX.map (fun _ k_ => AW.aload_n dL_law_1270 rfl rfl k_) ?_
  refine AX.map (fun _ k_ => AW.iload_n dL_law_1271 rfl rfl k_) ?_
  refine AX.map (fun _ k_ => AW.iconst (v := 1) dL_law_1272 (by decide) rfl k_) ?_
  refine AX.map (fun _ k_ => AW.iadd dL_law_1273 rfl k_) ?_
  refine AX.map (fun _ k_ => AW.iald2 dL_law_1274 rfl ht (sc_in (q := 1) (by omega) hn) (sc_at (q := 1) (by omega) hn) rfl k_) ?_
  refine AX.map (fun _ k_ => AW.callV (Y := mX2_weddings) (n := 1) (mr) (by omega) (by decide) rfl gM q1958 q1959 q1960 q141 q1961 dL_law_1275 (by decide +kernel) rfl rfl (Nat.le_of_ble_eq_true rfl) rfl k_) ?_
  refine AX.map (fun _ k_ => AW.icmp_eq (tgt := 1591) dL_law_1278 (by decide) rfl (fun _ => k_) (fun c_ => absurd rfl c_)) ?_
  exact kk v nx
theorem lc_twins (h : Inv s) (hg : s.b.g 500 = some (sc n f)) (hm : m + 6 ≤ n) (hn : n ≤ 384) (kk : ∀ v, Nxt s v → AX Q 140 mL_law (hp v) 1591 [some (.ref 500), some (.ref 512), some (.ref 625), some (.int (nI m))] [] o) : AX Q 140 mL_law (hp s) 1283 [some (.ref 500), some (.ref 512), some (.ref 625), some (.int (nI m))] [] o := by
  obtain ⟨dx, dm, r, t, v, hd, xr, mr, nx, t3⟩ := b_twins h
  have hs := g300 hg
  refine AX.map (fun _ k_ => AW.aload_n dL_law_1283 rfl rfl k_) ?_
  refine AX.map (fun _ k_ => AW.callV (Y := mX0_twins) (n := 0) (xr) (by omega) (by decide) rfl gX q1277 q1278 q1279 q138 q1280 dL_law_1284 (by decide +kernel) rfl rfl (Nat.le_of_ble_eq_true rfl) rfl k_) ?_
  refine AX.map (fun _ k_ => AW.aload_n dL_law_1287 rfl rfl k_) ?_
  refine AX.map (fun _ k_ => AW.callV (Y := mX2_twins) (n := 0) (mr) (by omega) (by decide) rfl gM q1978 q1979 q1980 q141 q1981 dL_law_1288 (by decide +kernel) rfl rfl (Nat.le_of_ble_eq_true rfl) rfl k_) ?_
  refine AX.map (fun _ k_ => AW.icmp_eq (tgt := 1591) dL_law_1291 (by decide) rfl (fun _ => k_) (fun c_ => absurd rfl c_)) ?_
  exact kk v nx
theorem lc_gossip (h : Inv s) (hg : s.b.g 500 = some (sc n f)) (hm : m + 6 ≤ n) (hn : n ≤ 384) (kk : ∀ v, Nxt s v → AX Q 140 mL_law (hp v) 1591 [some (.ref 500), some (.ref 512), some (.ref 625), some (.int (nI m))] [] o) : AX Q 140 mL_law (hp s) 1296 [some (.ref 500), some (.ref 512), some (.ref 625), some (.int (nI m))] [] o := by
  obtain ⟨dx, dm, r, t, v, hd, xr, mr, nx, t3⟩ := b_gossip h (f (m + 1)) (f (m + 2))
  have hs := g300 hg
  refine AX.map (fun _ k_ => AW.aload_n dL_law_1296 rfl rfl k_) ?_
  refine AX.map (fun _ k_ => AW.aload_n dL_law_1297 rfl rfl k_) ?_
  refine AX.map (fun _ k_ => AW.iload_n dL_law_1298 rfl rfl k_) ?_
  refine AX.map (fun _ k_ => AW.iconst (v := 1) dL_law_1299 (by decide) rfl k_) ?_
  refine AX.map (fun _ k_ => AW.iadd dL_law_1300 rfl k_) ?_
  refine AX.map (fun _ k_ => AW.iald2 dL_law_1301 rfl hs (sc_in (q := 1) (by omega) hn) (sc_at (q := 1) (by omega) hn) rfl k_) ?_
  refine AX.map (fun _ k_ => AW.aload_n dL_law_1302 rfl rfl k_) ?_
  refine AX.map (fun _ k_ => AW.iload_n dL_law_1303 rfl rfl k_) ?_
  refine AX.map (fun _ k_ => AW.iconst (v := 2) dL_law_1304 (by decide) rfl k_) ?_
  refine AX.map (fun _ k_ => AW.iadd dL_law_1305 rfl k_) ?_
  refine AX.map (fun _ k_ => AW.iald2 dL_law_1306 rfl hs (sc_in (q := 2) (by omega) hn) (sc_at (q := 2) (by omega) hn) rfl k_) ?_
  refine AX.map (fun _ k_ => AW.callV (Y := mX0_gossip) (n := 2) (xr) (by omega) (by decide) rfl gX q1281 q1282 q1283 q138 q1284 dL_law_1307 (by decide +kernel) rfl rfl (Nat.le_of_ble_eq_true rfl) rfl k_) ?_
  have ht : (hp t).g 500 = some (sc n f) := g300 (t3.trans hg)
  refine AX.map (fun _ k_ => AW.aload_n dL_law_1310 rfl rfl k_) ?_
  refine AX.map (fun _ k_ => AW.aload_n dL_law_1311 rfl rfl k_) ?_
  refine AX.map (fun _ k_ => AW.iload_n dL_law_1312 rfl rfl k_) ?_
  refine AX.map (fun _ k_ => AW.iconst (v := 1) dL_law_1313 (by decide) rfl k_) ?_
  refine AX.map (fun _ k_ => AW.iadd dL_law_1314 rfl k_) ?_
  refine AX.map (fun _ k_ => AW.iald2 dL_law_1315 rfl ht (sc_in (q := 1) (by omega) hn) (sc_at (q := 1) (by omega) hn) rfl k_) ?_
  refine AX.map (fun _ k_ => AW.aload_n dL_law_1316 rfl rfl k_) ?_
  refine AX.map (fun _ k_ => AW.iload_n dL_law_1317 rfl rfl k_) ?_
  refine AX.map (fun _ k_ => AW.iconst (v := 2) dL_law_1318 (by decide) rfl k_) ?_
  refine AX.map (fun _ k_ => AW.iadd dL_law_1319 rfl k_) ?_
  refine AX.map (fun _ k_ => AW.iald2 dL_law_1320 rfl ht (sc_in (q := 2) (by omega) hn) (sc_at (q := 2) (by omega) hn) rfl k_) ?_
  refine AX.map (fun _ k_ => AW.callV (Y := mX2_gossip) (n := 2) (mr) (by omega) (by decide) rfl gM q1982 q1983 q1984 q141 q1985 dL_law_1321 (by decide +kernel) rfl rfl (Nat.le_of_ble_eq_true rfl) rfl k_) ?_
  refine AX.map (fun _ k_ => AW.icmp_eq (tgt := 1591) dL_law_1324 (by decide) rfl (fun _ => k_) (fun c_ => absurd rfl c_)) ?_
  exact kk v nx
theorem lc_knows (h : Inv s) (hg : s.b.g 500 = some (sc n f)) (hm : m + 6 ≤ n) (hn : n ≤ 384) (kk : ∀ v, Nxt s v → AX Q 140 mL_law (hp v) 1591 [some (.ref 500), some (.ref 512), some (.ref 625), some (.int (nI m))] [] o) : AX Q 140 mL_law (hp s) 1329 [some (.ref 500), some (.ref 512), some (.ref 625), some (.int (nI m))] [] o := by
  obtain ⟨dx, dm, r, t, v, hd, xr, mr, nx, t3⟩ := b_knows h (f (m + 1)) (f (m + 2))
  have hs := g300 hg
  refine AX.map (fun _ k_ => AW.aload_n dL_law_1329 rfl rfl k_) ?_
  refine AX.map (fun _ k_ => AW.aload_n dL_law_1330 rfl rfl k_) ?_
  refine AX.map (fun _ k_ => AW.iload_n dL_law_1331 rfl rfl k_) ?_
  refine AX.map (fun _ k_ => AW.iconst (v := 1) dL_law_1332 (by decide) rfl k_) ?_
  refine AX.map (fun _ k_ => AW.iadd dL_law_1333 rfl k_) ?_
  refine AX.map (fun _ k_ => AW.iald2 dL_law_1334 rfl hs (sc_in (q := 1) (by omega) hn) (sc_at (q := 1) (by omega) hn) rfl k_) ?_
  refine AX.map (fun _ k_ => AW.aload_n dL_law_1335 rfl rfl k_) ?_
  refine AX.map (fun _ k_ => AW.iload_n dL_law_1336 rfl rfl k_) ?_
  refine AX.map (fun _ k_ => AW.iconst (v := 2) dL_law_1337 (by decide) rfl k_) ?_
  refine AX.map (fun _ k_ => AW.iadd dL_law_1338 rfl k_) ?_
  refine AX.map (fun _ k_ => AW.iald2 dL_law_1339 rfl hs (sc_in (q := 2) (by omega) hn) (sc_at (q := 2) (by omega) hn) rfl k_) ?_
  refine AX.map (fun _ k_ => AW.callV (Y := mX0_knows) (n := 2) (xr) (by omega) (by decide) rfl gX q1285 q1286 q1287 q138 q1288 dL_law_1340 (by decide +kernel) rfl rfl (Nat.le_of_ble_eq_true rfl) rfl k_) ?_
  have ht : (hp t).g 500 = some (sc n f) := g300 (t3.trans hg)
  refine AX.map (fun _ k_ => AW.aload_n dL_law_1343 rfl rfl k_) ?_
  refine AX.map (fun _ k_ => AW.aload_n dL_law_1344 rfl rfl k_) ?_
  refine AX.map (fun _ k_ => AW.iload_n dL_law_1345 rfl rfl k_) ?_
  refine AX.map (fun _ k_ => AW.iconst (v := 1) dL_law_1346 (by decide) rfl k_) ?_
  refine AX.map (fun _ k_ => AW.iadd dL_law_1347 rfl k_) ?_
  refine AX.map (fun _ k_ => AW.iald2 dL_law_1348 rfl ht (sc_in (q := 1) (by omega) hn) (sc_at (q := 1) (by omega) hn) rfl k_) ?_
  refine AX.map (fun _ k_ => AW.aload_n dL_law_1349 rfl rfl k_) ?_
  refine AX.map (fun _ k_ => AW.iload_n dL_law_1350 rfl rfl k_) ?_
  refine AX.map (fun _ k_ => AW.iconst (v := 2) dL_law_1351 (by decide) rfl k_) ?_
  refine AX.map (fun _ k_ => AW.iadd dL_law_1352 rfl k_) ?_
  refine AX.map (fun _ k_ => AW.iald2 dL_law_1353 rfl ht (sc_in (q := 2) (by omega) hn) (sc_at (q := 2) (by omega) hn) rfl k_) ?_
  refine AX.map (fun _ k_ => AW.callV (Y := mX2_knows) (n := 2) (mr) (by omega) (by decide) rfl gM q1986 q1987 q1988 q141 q1989 dL_law_1354 (by decide +kernel) rfl rfl (Nat.le_of_ble_eq_true rfl) rfl k_) ?_
  refine AX.map (fun _ k_ => AW.icmp_eq (tgt := 1591) dL_law_1357 (by decide) rfl (fun _ => k_) (fun c_ => absurd rfl c_)) ?_
  exact kk v nx
theorem lc_never (h : Inv s) (hg : s.b.g 500 = some (sc n f)) (hm : m + 6 ≤ n) (hn : n ≤ 384) (kk : ∀ v, Nxt s v → AX Q 140 mL_law (hp v) 1591 [some (.ref 500), some (.ref 512), some (.ref 625), some (.int (nI m))] [] o) : AX Q 140 mL_law (hp s) 1362 [some (.ref 500), some (.ref 512), some (.ref 625), some (.int (nI m))] [] o := by
  obtain ⟨dx, dm, r, t, v, hd, xr, mr, nx, t3⟩ := b_never h (f (m + 1))
  have hs := g300 hg
  refine AX.map (fun _ k_ => AW.aload_n dL_law_1362 rfl rfl k_) ?_
  refine AX.map (fun _ k_ => AW.aload_n dL_law_1363 rfl rfl k_) ?_
  refine AX.map (fun _ k_ => AW.iload_n dL_law_1364 rfl rfl k_) ?_
  refine AX.map (fun _ k_ => AW.iconst (v := 1) dL_law_1365 (by decide) rfl k_) ?_
  refine AX.map (fun _ k_ => AW.iadd dL_law_1366 rfl k_) ?_
  refine AX.map (fun _ k_ => AW.iald2 dL_law_1367 rfl hs (sc_in (q := 1) (by omega) hn) (sc_at (q := 1) (by omega) hn) rfl k_) ?_
  refine AX.map (fun _ k_ => AW.callV (Y := mX0_never) (n := 1) (xr) (by omega) (by decide) rfl gX q1293 q1294 q1295 q138 q1296 dL_law_1368 (by decide +kernel) rfl rfl (Nat.le_of_ble_eq_true rfl) rfl k_) ?_
  have ht : (hp t).g 500 = some (sc n f) := g300 (t3.trans hg)
  refine AX.map (fun _ k_ => AW.aload_n dL_law_1371 rfl rfl k_) ?_
  refine AX.map (fun _ k_ => AW.aload_n dL_law_1372 rfl rfl k_) ?_
  refine AX.map (fun _ k_ => AW.iload_n dL_law_1373 rfl rfl k_) ?_
  refine AX.map (fun _ k_ => AW.iconst (v := 1) dL_law_1374 (by decide) rfl k_) ?_
  refine AX.map (fun _ k_ => AW.iadd dL_law_1375 rfl k_) ?_
  refine AX.map (fun _ k_ => AW.iald2 dL_law_1376 rfl ht (sc_in (q := 1) (by omega) hn) (sc_at (q := 1) (by omega) hn) rfl k_) ?_
  refine AX.map (fun _ k_ => AW.callV (Y := mX2_never) (n := 1) (mr) (by omega) (by decide) rfl gM q1994 q1995 q1996 q141 q1997 dL_law_1377 (by decide +kernel) rfl rfl (Nat.le_of_ble_eq_true rfl) rfl k_) ?_
  refine AX.map (fun _ k_ => AW.icmp_eq (tgt := 1591) dL_law_1380 (by decide) rfl (fun _ => k_) (fun c_ => absurd rfl c_)) ?_
  exact kk v nx
theorem lc_richest_t (h : Inv s) (hg : s.b.g 500 = some (sc n f)) (hm : m + 6 ≤ n) (hn : n ≤ 384) (z : ¬ f (m + 1) = 0) (kk : ∀ v, Nxt s v → AX Q 140 mL_law (hp v) 1591 [some (.ref 500), some (.ref 512), some (.ref 625), some (.int (nI m))] [] o) : AX Q 140 mL_law (hp s) 1385 [some (.ref 500), some (.ref 512), some (.ref 625), some (.int (nI m))] [] o := by
  obtain ⟨dx, dm, r, t, v, hd, xr, mr, nx, t3⟩ := b_richest h true
  have hs := g300 hg
  refine AX.map (fun _ k_ => AW.aload_n dL_law_1385 rfl rfl k_) ?_
  refine AX.map (fun _ k_ => AW.aload_n dL_law_1386 rfl rfl k_) ?_
  refine AX.map (fun _ k_ => AW.iload_n dL_law_1387 rfl rfl k_) ?_
  refine AX.map (fun _ k_ => AW.iconst (v := 1) dL_law_1388 (by decide) rfl k_) ?_
  refine AX.map (fun _ k_ => AW.iadd dL_law_1389 rfl k_) ?_
  refine AX.map (fun _ k_ => AW.iald2 dL_law_1390 rfl hs (sc_in (q := 1) (by omega) hn) (sc_at (q := 1) (by omega) hn) rfl k_) ?_
  refine AX.map (fun _ k_ => AW.if_eq (tgt := 1398) dL_law_1391 (by decide) rfl (fun c_ => absurd c_ z) (fun _ => k_)) ?_
  refine AX.map (fun _ k_ => AW.iconst (v := 1) dL_law_1394 (by decide) rfl k_) ?_
  refine AX.map (fun _ k_ => AW.goto (tgt := 1399) dL_law_1395 (by decide) k_) ?_
  refine AX.map (fun _ k_ => AW.callV (Y := mX0_richest) (n := 1) (xr) (by omega) (by decide) rfl gX q1297 q1298 q1299 q138 q1300 dL_law_1399 (by decide +kernel) rfl rfl (Nat.le_of_ble_eq_true rfl) rfl k_) ?_
  have ht : (hp t).g 500 = some (sc n f) := g300 (t3.trans hg)
  refine AX.map (fun _ k_ => AW.aload_n dL_law_1402 rfl rfl k_) ?_
  refine AX.map (fun _ k_ => AW.aload_n dL_law_1403 rfl rfl k_) ?_
  refine AX.map (fun _ k_ => AW.iload_n dL_law_1404 rfl rfl k_) ?_
  refine AX.map (fun _ k_ => AW.iconst (v := 1) dL_law_1405 (by decide) rfl k_) ?_
  refine AX.map (fun _ k_ => AW.iadd dL_law_1406 rfl k_) ?_
  refine AX.map (fun _ k_ => AW.iald2 dL_law_1407 rfl ht (sc_in (q := 1) (by omega) hn) (sc_at (q := 1) (by omega) hn) rfl k_) ?_
  refine AX.map (fun _ k_ => AW.if_eq (tgt := 1415) dL_law_1408 (by decide) rfl (fun c_ => absurd c_ z) (fun _ => k_)) ?_
  refine AX.map (fun _ k_ => AW.iconst (v := 1) dL_law_1411 (by decide) rfl k_) ?_
  refine AX.map (fun _ k_ => AW.goto (tgt := 1416) dL_law_1412 (by decide) k_) ?_
  refine AX.map (fun _ k_ => AW.callV (Y := mX2_richest) (n := 1) (mr) (by omega) (by decide) rfl gM q1998 q1999 q2000 q141 q2001 dL_law_1416 (by decide +kernel) rfl rfl (Nat.le_of_ble_eq_true rfl) rfl k_) ?_
  refine AX.map (fun _ k_ => AW.icmp_eq (tgt := 1591) dL_law_1419 (by decide) rfl (fun _ => k_) (fun c_ => absurd rfl c_)) ?_
  exact kk v nx
theorem lc_richest_f (h : Inv s) (hg : s.b.g 500 = some (sc n f)) (hm : m + 6 ≤ n) (hn : n ≤ 384) (z : f (m + 1) = 0) (kk : ∀ v, Nxt s v → AX Q 140 mL_law (hp v) 1591 [some (.ref 500), some (.ref 512), some (.ref 625), some (.int (nI m))] [] o) : AX Q 140 mL_law (hp s) 1385 [some (.ref 500), some (.ref 512), some (.ref 625), some (.int (nI m))] [] o := by
  obtain ⟨dx, dm, r, t, v, hd, xr, mr, nx, t3⟩ := b_richest h false
  have hs := g300 hg
  refine AX.map (fun _ k_ => AW.aload_n dL_law_1385 rfl rfl k_) ?_
  refine AX.map (fun _ k_ => AW.aload_n dL_law_1386 rfl rfl k_) ?_
  refine AX.map (fun _ k_ => AW.iload_n dL_law_1387 rfl rfl k_) ?_
  refine AX.map (fun _ k_ => AW.iconst (v := 1) dL_law_1388 (by decide) rfl k_) ?_
  refine AX.map (fun _ k_ => AW.iadd dL_law_1389 rfl k_) ?_
  refine AX.map (fun _ k_ => AW.iald2 dL_law_1390 rfl hs (sc_in (q := 1) (by omega) hn) (sc_at (q := 1) (by omega) hn) rfl k_) ?_
  refine AX.map (fun _ k_ => AW.if_eq (tgt := 1398) dL_law_1391 (by decide) rfl (fun _ => k_) (fun c_ => absurd z c_)) ?_
  refine AX.map (fun _ k_ => AW.iconst (v := 0) dL_law_1398 (by decide) rfl k_) ?_
  refine AX.map (fun _ k_ => AW.callV (Y := mX0_richest) (n := 1) (xr) (by omega) (by decide) rfl gX q1297 q1298 q1299 q138 q1300 dL_law_1399 (by decide +kernel) rfl rfl (Nat.le_of_ble_eq_true rfl) rfl k_) ?_
  have ht : (hp t).g 500 = some (sc n f) := g300 (t3.trans hg)
  refine AX.map (fun _ k_ => AW.aload_n dL_law_1402 rfl rfl k_) ?_
  refine AX.map (fun _ k_ => AW.aload_n dL_law_1403 rfl rfl k_) ?_
  refine AX.map (fun _ k_ => AW.iload_n dL_law_1404 rfl rfl k_) ?_
  refine AX.map (fun _ k_ => AW.iconst (v := 1) dL_law_1405 (by decide) rfl k_) ?_
  refine AX.map (fun _ k_ => AW.iadd dL_law_1406 rfl k_) ?_
  refine AX.map (fun _ k_ => AW.iald2 dL_law_1407 rfl ht (sc_in (q := 1) (by omega) hn) (sc_at (q := 1) (by omega) hn) rfl k_) ?_
  refine AX.map (fun _ k_ => AW.if_eq (tgt := 1415) dL_law_1408 (by decide) rfl (fun _ => k_) (fun c_ => absurd z c_)) ?_
  refine AX.map (fun _ k_ => AW.iconst (v := 0) dL_law_1415 (by decide) rfl k_) ?_
  refine AX.map (fun _ k_ => AW.callV (Y := mX2_richest) (n := 1) (mr) (by omega) (by decide) rfl gM q1998 q1999 q2000 q141 q2001 dL_law_1416 (by decide +kernel) rfl rfl (Nat.le_of_ble_eq_true rfl) rfl k_) ?_
  refine AX.map (fun _ k_ => AW.icmp_eq (tgt := 1591) dL_law_1419 (by decide) rfl (fun _ => k_) (fun c_ => absurd rfl c_)) ?_
  exact kk v nx
theorem lc_whose (h : Inv s) (hg : s.b.g 500 = some (sc n f)) (hm : m + 6 ≤ n) (hn : n ≤ 384) (kk : ∀ v, Nxt s v → AX Q 140 mL_law (hp v) 1591 [some (.ref 500), some (.ref 512), some (.ref 625), some (.int (nI m))] [] o) : AX Q 140 mL_law (hp s) 1424 [some (.ref 500), some (.ref 512), some (.ref 625), some (.int (nI m))] [] o := by
  obtain ⟨dx, dm, r, t, v, hd, xr, mr, nx, t3⟩ := b_whose h (f (m + 1))
  have hs := g300 hg
  refine AX.map (fun _ k_ => AW.aload_n dL_law_1424 rfl rfl k_) ?_
  refine AX.map (fun _ k_ => AW.aload_n dL_law_1425 rfl rfl k_) ?_
  refine AX.map (fun _ k_ => AW.iload_n dL_law_1426 rfl rfl k_) ?_
  refine AX.map (fun _ k_ => AW.iconst (v := 1) dL_law_1427 (by decide) rfl k_) ?_
  refine AX.map (fun _ k_ => AW.iadd dL_law_1428 rfl k_) ?_
  refine AX.map (fun _ k_ => AW.iald2 dL_law_1429 rfl hs (sc_in (q := 1) (by omega) hn) (sc_at (q := 1) (by omega) hn) rfl k_) ?_
  refine AX.map (fun _ k_ => AW.callV (Y := mX0_whose) (n := 1) (xr) (by omega) (by decide) rfl gX q1305 q1306 q1307 q138 q1308 dL_law_1430 (by decide +kernel) rfl rfl (Nat.le_of_ble_eq_true rfl) rfl k_) ?_
  have ht : (hp t).g 500 = some (sc n f) := g300 (t3.trans hg)
  refine AX.map (fun _ k_ => AW.aload_n dL_law_1433 rfl rfl k_) ?_
  refine AX.map (fun _ k_ => AW.aload_n dL_law_1434 rfl rfl k_) ?_
  refine AX.map (fun _ k_ => AW.iload_n dL_law_1435 rfl rfl k_) ?_
  refine AX.map (fun _ k_ => AW.iconst (v := 1) dL_law_1436 (by decide) rfl k_) ?_
  refine AX.map (fun _ k_ => AW.iadd dL_law_1437 rfl k_) ?_
  refine AX.map (fun _ k_ => AW.iald2 dL_law_1438 rfl ht (sc_in (q := 1) (by omega) hn) (sc_at (q := 1) (by omega) hn) rfl k_) ?_
  refine AX.map (fun _ k_ => AW.callV (Y := mX2_whose) (n := 1) (mr) (by omega) (by decide) rfl gM q1857 q1858 q1859 q141 q1860 dL_law_1439 (by decide +kernel) rfl rfl (Nat.le_of_ble_eq_true rfl) rfl k_) ?_
  refine AX.map (fun _ k_ => AW.icmp_eq (tgt := 1591) dL_law_1442 (by decide) rfl (fun _ => k_) (fun c_ => absurd rfl c_)) ?_
  exact kk v nx
theorem lc_knocks_t (h : Inv s) (hg : s.b.g 500 = some (sc n f)) (hm : m + 6 ≤ n) (hn : n ≤ 384) (z : ¬ f (m + 2) = 0) (kk : ∀ v, Nxt s v → AX Q 140 mL_law (hp v) 1591 [some (.ref 500), some (.ref 512), some (.ref 625), some (.int (nI m))] [] o) : AX Q 140 mL_law (hp s) 1447 [some (.ref 500), some (.ref 512), some (.ref 625), some (.int (nI m))] [] o := by
  obtain ⟨dx, dm, r, t, v, hd, xr, mr, nx, t3⟩ := b_knocks h (f (m + 1)) 1
  have hs := g300 hg
  refine AX.map (fun _ k_ => AW.aload_n dL_law_1447 rfl rfl k_) ?_
  refine AX.map (fun _ k_ => AW.aload_n dL_law_1448 rfl rfl k_) ?_
  refine AX.map (fun _ k_ => AW.iload_n dL_law_1449 rfl rfl k_) ?_
  refine AX.map (fun _ k_ => AW.iconst (v := 1) dL_law_1450 (by decide) rfl k_) ?_
  refine AX.map (fun _ k_ => AW.iadd dL_law_1451 rfl k_) ?_
  refine AX.map (fun _ k_ => AW.iald2 dL_law_1452 rfl hs (sc_in (q := 1) (by omega) hn) (sc_at (q := 1) (by omega) hn) rfl k_) ?_
  refine AX.map (fun _ k_ => AW.aload_n dL_law_1453 rfl rfl k_) ?_
  refine AX.map (fun _ k_ => AW.iload_n dL_law_1454 rfl rfl k_) ?_
  refine AX.map (fun _ k_ => AW.iconst (v := 2) dL_law_1455 (by decide) rfl k_) ?_
  refine AX.map (fun _ k_ => AW.iadd dL_law_1456 rfl k_) ?_
  refine AX.map (fun _ k_ => AW.iald2 dL_law_1457 rfl hs (sc_in (q := 2) (by omega) hn) (sc_at (q := 2) (by omega) hn) rfl k_) ?_
  refine AX.map (fun _ k_ => AW.if_eq (tgt := 1465) dL_law_1458 (by decide) rfl (fun c_ => absurd c_ z) (fun _ => k_)) ?_
  refine AX.map (fun _ k_ => AW.iconst (v := 1) dL_law_1461 (by decide) rfl k_) ?_
  refine AX.map (fun _ k_ => AW.goto (tgt := 1466) dL_law_1462 (by decide) k_) ?_
  refine AX.map (fun _ k_ => AW.callV (Y := mX0_knocks) (n := 2) (xr) (by omega) (by decide) rfl gX q1313 q1314 q1315 q138 q1316 dL_law_1466 (by decide +kernel) rfl rfl (Nat.le_of_ble_eq_true rfl) rfl k_) ?_
  have ht : (hp t).g 500 = some (sc n f) := g300 (t3.trans hg)
  refine AX.map (fun _ k_ => AW.aload_n dL_law_1469 rfl rfl k_) ?_
  refine AX.map (fun _ k_ => AW.aload_n dL_law_1470 rfl rfl k_) ?_
  refine AX.map (fun _ k_ => AW.iload_n dL_law_1471 rfl rfl k_) ?_
  refine AX.map (fun _ k_ => AW.iconst (v := 1) dL_law_1472 (by decide) rfl k_) ?_
  refine AX.map (fun _ k_ => AW.iadd dL_law_1473 rfl k_) ?_
  refine AX.map (fun _ k_ => AW.iald2 dL_law_1474 rfl ht (sc_in (q := 1) (by omega) hn) (sc_at (q := 1) (by omega) hn) rfl k_) ?_
  refine AX.map (fun _ k_ => AW.aload_n dL_law_1475 rfl rfl k_) ?_
  refine AX.map (fun _ k_ => AW.iload_n dL_law_1476 rfl rfl k_) ?_
  refine AX.map (fun _ k_ => AW.iconst (v := 2) dL_law_1477 (by decide) rfl k_) ?_
  refine AX.map (fun _ k_ => AW.iadd dL_law_1478 rfl k_) ?_
  refine AX.map (fun _ k_ => AW.iald2 dL_law_1479 rfl ht (sc_in (q := 2) (by omega) hn) (sc_at (q := 2) (by omega) hn) rfl k_) ?_
  refine AX.map (fun _ k_ => AW.if_eq (tgt := 1487) dL_law_1480 (by decide) rfl (fun c_ => absurd c_ z) (fun _ => k_)) ?_
  refine AX.map (fun _ k_ => AW.iconst (v := 1) dL_law_1483 (by decide) rfl k_) ?_
  refine AX.map (fun _ k_ => AW.goto (tgt := 1488) dL_law_1484 (by decide) k_) ?_
  refine AX.map (fun _ k_ => AW.callV (Y := mX2_knocks) (n := 2) (mr) (by omega) (by decide) rfl gM q1825 q1826 q1827 q141 q1828 dL_law_1488 (by decide +kernel) rfl rfl (Nat.le_of_ble_eq_true rfl) rfl k_) ?_
  refine AX.map (fun _ k_ => AW.icmp_eq (tgt := 1591) dL_law_1491 (by decide) rfl (fun _ => k_) (fun c_ => absurd rfl c_)) ?_
  exact kk v nx
theorem lc_knocks_f (h : Inv s) (hg : s.b.g 500 = some (sc n f)) (hm : m + 6 ≤ n) (hn : n ≤ 384) (z : f (m + 2) = 0) (kk : ∀ v, Nxt s v → AX Q 140 mL_law (hp v) 1591 [some (.ref 500), some (.ref 512), some (.ref 625), some (.int (nI m))] [] o) : AX Q 140 mL_law (hp s) 1447 [some (.ref 500), some (.ref 512), some (.ref 625), some (.int (nI m))] [] o := by
  obtain ⟨dx, dm, r, t, v, hd, xr, mr, nx, t3⟩ := b_knocks h (f (m + 1)) 0
  have hs := g300 hg
  refine AX.map (fun _ k_ => AW.aload_n dL_law_1447 rfl rfl k_) ?_
  refine AX.map (fun _ k_ => AW.aload_n dL_law_1448 rfl rfl k_) ?_
  refine AX.map (fun _ k_ => AW.iload_n dL_law_1449 rfl rfl k_) ?_
  refine AX.map (fun _ k_ => AW.iconst (v := 1) dL_law_1450 (by decide) rfl k_) ?_
  refine AX.map (fun _ k_ => AW.iadd dL_law_1451 rfl k_) ?_
  refine AX.map (fun _ k_ => AW.iald2 dL_law_1452 rfl hs (sc_in (q := 1) (by omega) hn) (sc_at (q := 1) (by omega) hn) rfl k_) ?_
  refine AX.map (fun _ k_ => AW.aload_n dL_law_1453 rfl rfl k_) ?_
  refine AX.map (fun _ k_ => AW.iload_n dL_law_1454 rfl rfl k_) ?_
  refine AX.map (fun _ k_ => AW.iconst (v := 2) dL_law_1455 (by decide) rfl k_) ?_
  refine AX.map (fun _ k_ => AW.iadd dL_law_1456 rfl k_) ?_
  refine AX.map (fun _ k_ => AW.iald2 dL_law_1457 rfl hs (sc_in (q := 2) (by omega) hn) (sc_at (q := 2) (by omega) hn) rfl k_) ?_
  refine AX.map (fun _ k_ => AW.if_eq (tgt := 1465) dL_law_1458 (by decide) rfl (fun _ => k_) (fun c_ => absurd z c_)) ?_
  refine AX.map (fun _ k_ => AW.iconst (v := 0) dL_law_1465 (by decide) rfl k_) ?_
  refine AX.map (fun _ k_ => AW.callV (Y := mX0_knocks) (n := 2) (xr) (by omega) (by decide) rfl gX q1313 q1314 q1315 q138 q1316 dL_law_1466 (by decide +kernel) rfl rfl (Nat.le_of_ble_eq_true rfl) rfl k_) ?_
  have ht : (hp t).g 500 = some (sc n f) := g300 (t3.trans hg)
  refine AX.map (fun _ k_ => AW.aload_n dL_law_1469 rfl rfl k_) ?_
  refine AX.map (fun _ k_ => AW.aload_n dL_law_1470 rfl rfl k_) ?_
  refine AX.map (fun _ k_ => AW.iload_n dL_law_1471 rfl rfl k_) ?_
  refine AX.map (fun _ k_ => AW.iconst (v := 1) dL_law_1472 (by decide) rfl k_) ?_
  refine AX.map (fun _ k_ => AW.iadd dL_law_1473 rfl k_) ?_
  refine AX.map (fun _ k_ => AW.iald2 dL_law_1474 rfl ht (sc_in (q := 1) (by omega) hn) (sc_at (q := 1) (by omega) hn) rfl k_) ?_
  refine AX.map (fun _ k_ => AW.aload_n dL_law_1475 rfl rfl k_) ?_
  refine AX.map (fun _ k_ => AW.iload_n dL_law_1476 rfl rfl k_) ?_
  refine AX.map (fun _ k_ => AW.iconst (v := 2) dL_law_1477 (by decide) rfl k_) ?_
  refine AX.map (fun _ k_ => AW.iadd dL_law_1478 rfl k_) ?_
  refine AX.map (fun _ k_ => AW.iald2 dL_law_1479 rfl ht (sc_in (q := 2) (by omega) hn) (sc_at (q := 2) (by omega) hn) rfl k_) ?_
  refine AX.map (fun _ k_ => AW.if_eq (tgt := 1487) dL_law_1480 (by decide) rfl (fun _ => k_) (fun c_ => absurd z c_)) ?_
  refine AX.map (fun _ k_ => AW.iconst (v := 0) dL_law_1487 (by decide) rfl k_) ?_
  refine AX.map (fun _ k_ => AW.callV (Y := mX2_knocks) (n := 2) (mr) (by omega) (by decide) rfl gM q1825 q1826 q1827 q141 q1828 dL_law_1488 (by decide +kernel) rfl rfl (Nat.le_of_ble_eq_true rfl) rfl k_) ?_
  refine AX.map (fun _ k_ => AW.icmp_eq (tgt := 1591) dL_law_1491 (by decide) rfl (fun _ => k_) (fun c_ => absurd rfl c_)) ?_
  exact kk v nx
theorem lc_offended (h : Inv s) (hg : s.b.g 500 = some (sc n f)) (hm : m + 6 ≤ n) (hn : n ≤ 384) (kk : ∀ v, Nxt s v → AX Q 140 mL_law (hp v) 1591 [some (.ref 500), some (.ref 512), some (.ref 625), some (.int (nI m))] [] o) : AX Q 140 mL_law (hp s) 1496 [some (.ref 500), some (.ref 512), some (.ref 625), some (.int (nI m))] [] o := by
  obtain ⟨dx, dm, r, t, v, hd, xr, mr, nx, t3⟩ := b_offended h
  have hs := g300 hg
  refine AX.map (fun _ k_ => AW.aload_n dL_law_1496 rfl rfl k_) ?_
  refine AX.map (fun _ k_ => AW.callV (Y := mX0_offended) (n := 0) (xr) (by omega) (by decide) rfl gX q1321 q1322 q1323 q138 q1324 dL_law_1497 (by decide +kernel) rfl rfl (Nat.le_of_ble_eq_true rfl) rfl k_) ?_
  refine AX.map (fun _ k_ => AW.aload_n dL_law_1500 rfl rfl k_) ?_
  refine AX.map (fun _ k_ => AW.callV (Y := mX2_offended) (n := 0) (mr) (by omega) (by decide) rfl gM q1833 q1834 q1835 q141 q1836 dL_law_1501 (by decide +kernel) rfl rfl (Nat.le_of_ble_eq_true rfl) rfl k_) ?_
  refine AX.map (fun _ k_ => AW.icmp_eq (tgt := 1591) dL_law_1504 (by decide) rfl (fun _ => k_) (fun c_ => absurd rfl c_)) ?_
  exact kk v nx
theorem lc_leap (h : Inv s) (hg : s.b.g 500 = some (sc n f)) (hm : m + 6 ≤ n) (hn : n ≤ 384) (kk : ∀ v, Nxt s v → AX Q 140 mL_law (hp v) 1591 [some (.ref 500), some (.ref 512), some (.ref 625), some (.int (nI m))] [] o) : AX Q 140 mL_law (hp s) 1509 [some (.ref 500), some (.ref 512), some (.ref 625), some (.int (nI m))] [] o := by
  obtain ⟨dx, dm, r, t, v, hd, xr, mr, nx, t3⟩ := b_leap h (f (m + 1)) (f (m + 2))
  have hs := g300 hg
  refine AX.map (fun _ k_ => AW.aload_n dL_law_1509 rfl rfl k_) ?_
  refine AX.map (fun _ k_ => AW.aload_n dL_law_1510 rfl rfl k_) ?_
  refine AX.map (fun _ k_ => AW.iload_n dL_law_1511 rfl rfl k_) ?_
  refine AX.map (fun _ k_ => AW.iconst (v := 1) dL_law_1512 (by decide) rfl k_) ?_
  refine AX.map (fun _ k_ => AW.iadd dL_law_1513 rfl k_) ?_
  refine AX.map (fun _ k_ => AW.iald2 dL_law_1514 rfl hs (sc_in (q := 1) (by omega) hn) (sc_at (q := 1) (by omega) hn) rfl k_) ?_
  refine AX.map (fun _ k_ => AW.aload_n dL_law_1515 rfl rfl k_) ?_
  refine AX.map (fun _ k_ => AW.iload_n dL_law_1516 rfl rfl k_) ?_
  refine AX.map (fun _ k_ => AW.iconst (v := 2) dL_law_1517 (by decide) rfl k_) ?_
  refine AX.map (fun _ k_ => AW.iadd dL_law_1518 rfl k_) ?_
  refine AX.map (fun _ k_ => AW.iald2 dL_law_1519 rfl hs (sc_in (q := 2) (by omega) hn) (sc_at (q := 2) (by omega) hn) rfl k_) ?_
  refine AX.map (fun _ k_ => AW.callV (Y := mX0_leap) (n := 2) (xr) (by omega) (by decide) rfl gX q1325 q1326 q1327 q138 q1328 dL_law_1520 (by decide +kernel) rfl rfl (Nat.le_of_ble_eq_true rfl) rfl k_) ?_
  have ht : (hp t).g 500 = some (sc n f) := g300 (t3.trans hg)
  refine AX.map (fun _ k_ => AW.aload_n dL_law_1523 rfl rfl k_) ?_
  refine AX.map (fun _ k_ => AW.aload_n dL_law_1524 rfl rfl k_) ?_
  refine AX.map (fun _ k_ => AW.iload_n dL_law_1525 rfl rfl k_) ?_
  refine AX.map (fun _ k_ => AW.iconst (v := 1) dL_law_1526 (by decide) rfl k_) ?_
  refine AX.map (fun _ k_ => AW.iadd dL_law_1527 rfl k_) ?_
  refine AX.map (fun _ k_ => AW.iald2 dL_law_1528 rfl ht (sc_in (q := 1) (by omega) hn) (sc_at (q := 1) (by omega) hn) rfl k_) ?_
  refine AX.map (fun _ k_ => AW.aload_n dL_law_1529 rfl rfl k_) ?_
  refine AX.map (fun _ k_ => AW.iload_n dL_law_1530 rfl rfl k_) ?_
  refine AX.map (fun _ k_ => AW.iconst (v := 2) dL_law_1531 (by decide) rfl k_) ?_
  refine AX.map (fun _ k_ => AW.iadd dL_law_1532 rfl k_) ?_
  refine AX.map (fun _ k_ => AW.iald2 dL_law_1533 rfl ht (sc_in (q := 2) (by omega) hn) (sc_at (q := 2) (by omega) hn) rfl k_) ?_
  refine AX.map (fun _ k_ => AW.callV (Y := mX2_leap) (n := 2) (mr) (by omega) (by decide) rfl gM q2006 q2007 q2008 q141 q2009 dL_law_1534 (by decide +kernel) rfl rfl (Nat.le_of_ble_eq_true rfl) rfl k_) ?_
  refine AX.map (fun _ k_ => AW.icmp_eq (tgt := 1591) dL_law_1537 (by decide) rfl (fun _ => k_) (fun c_ => absurd rfl c_)) ?_
  exact kk v nx
theorem lc_image (h : Inv s) (hg : s.b.g 500 = some (sc n f)) (hm : m + 6 ≤ n) (hn : n ≤ 384) (kk : ∀ v, Nxt s v → AX Q 140 mL_law (hp v) 1591 [some (.ref 500), some (.ref 512), some (.ref 625), some (.int (nI m))] [] o) : AX Q 140 mL_law (hp s) 1542 [some (.ref 500), some (.ref 512), some (.ref 625), some (.int (nI m))] [] o := by
  obtain ⟨dx, dm, r, t, v, hd, xr, mr, nx, t3⟩ := b_image h
  have hs := g300 hg
  refine AX.map (fun _ k_ => AW.aload_n dL_law_1542 rfl rfl k_) ?_
  refine AX.map (fun _ k_ => AW.callV (Y := mX0_image) (n := 0) (xr) (by omega) (by decide) rfl gX q1330 q1331 q1332 q138 q1333 dL_law_1543 (by decide +kernel) rfl rfl (Nat.le_of_ble_eq_true rfl) rfl k_) ?_
  refine AX.map (fun _ k_ => AW.aload_n dL_law_1546 rfl rfl k_) ?_
  refine AX.map (fun _ k_ => AW.callV (Y := mX2_image) (n := 0) (mr) (by omega) (by decide) rfl gM q2013 q2014 q2015 q141 q2016 dL_law_1547 (by decide +kernel) rfl rfl (Nat.le_of_ble_eq_true rfl) rfl k_) ?_
  refine AX.map (fun _ k_ => AW.icmp_eq (tgt := 1591) dL_law_1550 (by decide) rfl (fun _ => k_) (fun c_ => absurd rfl c_)) ?_
  exact kk v nx
theorem lc_back (h : Inv s) (hg : s.b.g 500 = some (sc n f)) (hm : m + 6 ≤ n) (hn : n ≤ 384) (kk : ∀ v, Nxt s v → AX Q 140 mL_law (hp v) 1591 [some (.ref 500), some (.ref 512), some (.ref 625), some (.int (nI m))] [] o) : AX Q 140 mL_law (hp s) 1555 [some (.ref 500), some (.ref 512), some (.ref 625), some (.int (nI m))] [] o := by
  obtain ⟨dx, dm, r, t, v, hd, xr, mr, nx, t3⟩ := b_back h
  have hs := g300 hg
  refine AX.map (fun _ k_ => AW.aload_n dL_law_1555 rfl rfl k_) ?_
  refine AX.map (fun _ k_ => AW.callV (Y := mX0_back) (n := 0) (xr) (by omega) (by decide) rfl gX q1334 q1335 q1336 q138 q1337 dL_law_1556 (by decide +kernel) rfl rfl (Nat.le_of_ble_eq_true rfl) rfl k_) ?_
  refine AX.map (fun _ k_ => AW.aload_n dL_law_1559 rfl rfl k_) ?_
  refine AX.map (fun _ k_ => AW.callV (Y := mX2_back) (n := 0) (mr) (by omega) (by decide) rfl gM q2017 q2018 q2019 q141 q2020 dL_law_1560 (by decide +kernel) rfl rfl (Nat.le_of_ble_eq_true rfl) rfl k_) ?_
  refine AX.map (fun _ k_ => AW.icmp_eq (tgt := 1591) dL_law_1563 (by decide) rfl (fun _ => k_) (fun c_ => absurd rfl c_)) ?_
  exact kk v nx
theorem lc_about (h : Inv s) (hg : s.b.g 500 = some (sc n f)) (hm : m + 6 ≤ n) (hn : n ≤ 384) (kk : ∀ v, Nxt s v → AX Q 140 mL_law (hp v) 1591 [some (.ref 500), some (.ref 512), some (.ref 625), some (.int (nI m))] [] o) : AX Q 140 mL_law (hp s) 1568 [some (.ref 500), some (.ref 512), some (.ref 625), some (.int (nI m))] [] o := by
  obtain ⟨dx, dm, r, t, v, hd, xr, mr, nx, t3⟩ := b_about h (f (m + 1))
  have hs := g300 hg
  refine AX.map (fun _ k_ => AW.aload_n dL_law_1568 rfl rfl k_) ?_
  refine AX.map (fun _ k_ => AW.aload_n dL_law_1569 rfl rfl k_) ?_
  refine AX.map (fun _ k_ => AW.iload_n dL_law_1570 rfl rfl k_) ?_
  refine AX.map (fun _ k_ => AW.iconst (v := 1) dL_law_1571 (by decide) rfl k_) ?_
  refine AX.map (fun _ k_ => AW.iadd dL_law_1572 rfl k_) ?_
  refine AX.map (fun _ k_ => AW.iald2 dL_law_1573 rfl hs (sc_in (q := 1) (by omega) hn) (sc_at (q := 1) (by omega) hn) rfl k_) ?_
  refine AX.map (fun _ k_ => AW.callV (Y := mX0_about) (n := 1) (xr) (by omega) (by decide) rfl gX q1338 q1339 q1340 q138 q1341 dL_law_1574 (by decide +kernel) rfl rfl (Nat.le_of_ble_eq_true rfl) rfl k_) ?_
  have ht : (hp t).g 500 = some (sc n f) := g300 (t3.trans hg)
  refine AX.map (fun _ k_ => AW.aload_n dL_law_1577 rfl rfl k_) ?_
  refine AX.map (fun _ k_ => AW.aload_n dL_law_1578 rfl rfl k_) ?_
  refine AX.map (fun _ k_ => AW.iload_n dL_law_1579 rfl rfl k_) ?_
  refine AX.map (fun _ k_ => AW.iconst (v := 1) dL_law_1580 (by decide) rfl k_) ?_
  refine AX.map (fun _ k_ => AW.iadd dL_law_1581 rfl k_) ?_
  refine AX.map (fun _ k_ => AW.iald2 dL_law_1582 rfl ht (sc_in (q := 1) (by omega) hn) (sc_at (q := 1) (by omega) hn) rfl k_) ?_
  refine AX.map (fun _ k_ => AW.callV (Y := mX2_about) (n := 1) (mr) (by omega) (by decide) rfl gM q2021 q2022 q2023 q141 q2024 dL_law_1583 (by decide +kernel) rfl rfl (Nat.le_of_ble_eq_true rfl) rfl k_) ?_
  refine AX.map (fun _ k_ => AW.icmp_eq (tgt := 1591) dL_law_1586 (by decide) rfl (fun _ => k_) (fun c_ => absurd rfl c_)) ?_
  exact kk v nx
end LAW
