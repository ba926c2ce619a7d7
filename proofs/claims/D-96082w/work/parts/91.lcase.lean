/-! THE LAW's CASES (printed by genl.py) -/
abbrev AL (s : State) : Nat → Prop := fun q => s.heap.size ≤ q
def CL (p : Program) (s : State) (m : MethodId) (meth : Method) (c : Code) (b L : Nat) (xs : Nat → Int32) (Γ : GA) : Prop := p.tables.exec = Jvm.exec ∧ c.code = cL_law ∧ c.maxLocals = 4 ∧ s.vm.findClass R_law = some m.cls ∧ (∀ w ∈ lw_all, w.before #[Value.ref b] s = true) ∧ KX Γ s ∧ ZS Γ (AL s) s s.heap ∧ va_X b L xs s s.heap ∧ b < s.heap.size
def LT (p : Program) (l : Launch) (e : Env) (s : State) (m : MethodId) (below : List Frame) (meth : Method) (c : Code) (b : Nat) (Γ : GA) (α : Nat → Nat) (x : Nat) (RL : XSh → XSt → MSt → Nat → Prop) (i : Int32) (cells slots pc : Nat) : Prop := ∀ (δ : XSh) (σ : XSt) (σm : MSt) (H : Heap) (locs : List Loc) (ls : Array Slot), (0, x) ∈ δ.1 → RL δ σ σm x → LB Γ (AL s) δ σ α σm H → va_S (AL s) s.heap H locs → lv_has ls 4 [(0, .ref b), (1, .ref x), (2, .ref (α 50)), (3, .int i)] → W p l e room_1 s m #[Value.ref b] below meth c H locs cells slots (lw_Z below #[Value.ref b] s) (F0 m pc ls [])
set_option maxHeartbeats 4000000 in
set_option maxRecDepth 100000 in
theorem lc_row {p : Program} {l : Launch} {e : Env} {s : State} {m : MethodId} {below : List Frame} {meth : Method} {c : Code} {b L : Nat} {xs : Nat → Int32} {Γ : GA} {α : Nat → Nat} {x : Nat} {RL : XSh → XSt → MSt → Nat → Prop} (X : CL p s m meth c b L xs Γ) (hst : l.stackTraces = false) (pl : Pl_row RL) {i : Int32} (h1 : vp_in (i + 1) L) (h2 : vp_in (i + 2) L) (h3 : vp_in (i + 3) L) (h4 : vp_in (i + 4) L) (h5 : vp_in (i + 5) L) {cells slots : Nat} (hc : cells + 4659 ≤ 603072) (hs : slots + 33787 ≤ 7262314) (kk : LT p l e s m below meth c b Γ α x RL i (cells + 4659) (slots + 33787) 1435) : LT p l e s m below meth c b Γ α x RL i cells slots 216 := by
  intro δ σ σm H locs ls h0 hR hB hS hl
  obtain ⟨hx, hb, hml, hown, hts, hK, hZ, hX, hbl⟩ := id X
  have hbA : ¬ AL s b := Nat.not_le.mpr hbl
  have hA : ∀ q, s.heap.size ≤ q → AL s q := fun _ h => h
  refine lv_aload_n hx hb dL_law_216 rfl (lv_at hl 1 rfl) ?_
  refine lv_aload_n hx hb dL_law_217 rfl (lv_at hl 0 rfl) ?_
  refine lv_iload_n hx hb dL_law_218 rfl (lv_at hl 3 rfl) ?_
  refine lv_iconst (v := 1) hx hb dL_law_219 (by decide) ?_
  refine lv_iadd hx hb dL_law_220 ?_
  refine va_sld hx hb hX hbl hbA hS h1 dL_law_221 ?_
  refine lv_aload_n hx hb dL_law_222 rfl (lv_at hl 0 rfl) ?_
  refine lv_iload_n hx hb dL_law_223 rfl (lv_at hl 3 rfl) ?_
  refine lv_iconst (v := 2) hx hb dL_law_224 (by decide) ?_
  refine lv_iadd hx hb dL_law_225 ?_
  refine va_sld hx hb hX hbl hbA hS h2 dL_law_226 ?_
  refine lv_aload_n hx hb dL_law_227 rfl (lv_at hl 0 rfl) ?_
  refine lv_iload_n hx hb dL_law_228 rfl (lv_at hl 3 rfl) ?_
  refine lv_iconst (v := 3) hx hb dL_law_229 (by decide) ?_
  refine lv_iadd hx hb dL_law_230 ?_
  refine va_sld hx hb hX hbl hbA hS h3 dL_law_231 ?_
  have hwp := pl δ σ σm x hR (xs (i + 1).toNatClampNeg) (xs (i + 2).toNatClampNeg) (xs (i + 3).toNatClampNeg)
  refine l_ygoi (vx_runVX (As := [.int (xs (i + 1).toNatClampNeg), .int (xs (i + 2).toNatClampNeg), .int (xs (i + 3).toNatClampNeg)]) (rest := []) ⟨hx, hb, hml, hown, hts⟩ (xt_S_row hst h0 hwp H.size) (vx_cwVW 3 hts (lw_VW q218 q219 q220 q75 q221) rfl rfl rfl (by decide +kernel) ⟨(Nat.le_of_ble_eq_true rfl), (Nat.le_of_ble_eq_true rfl)⟩) (y_preV hK hB.2.1 hB.2.2.1 hA hZ hB.1 hS 0 x h0 rfl rfl) rfl rfl hl.1 rfl (lv_room (Nat.le_of_ble_eq_true rfl)) dL_law_232 ⟨(show _ ≤ 603072 by omega), (show _ ≤ 7262314 by omega)⟩) hB hA hS (fun r1 u H locs hk hB hS => ?_)
  obtain ⟨hwp, hE⟩ := hk
  replace h0 := hE.m h0
  obtain ⟨δ, σ⟩ := u
  refine lv_aload_n hx hb dL_law_235 rfl (lv_at hl 2 rfl) ?_
  refine lv_aload_n hx hb dL_law_236 rfl (lv_at hl 0 rfl) ?_
  refine lv_iload_n hx hb dL_law_237 rfl (lv_at hl 3 rfl) ?_
  refine lv_iconst (v := 1) hx hb dL_law_238 (by decide) ?_
  refine lv_iadd hx hb dL_law_239 ?_
  refine va_sld hx hb hX hbl hbA hS h1 dL_law_240 ?_
  refine lv_aload_n hx hb dL_law_241 rfl (lv_at hl 0 rfl) ?_
  refine lv_iload_n hx hb dL_law_242 rfl (lv_at hl 3 rfl) ?_
  refine lv_iconst (v := 2) hx hb dL_law_243 (by decide) ?_
  refine lv_iadd hx hb dL_law_244 ?_
  refine va_sld hx hb hX hbl hbA hS h2 dL_law_245 ?_
  refine lv_aload_n hx hb dL_law_246 rfl (lv_at hl 0 rfl) ?_
  refine lv_iload_n hx hb dL_law_247 rfl (lv_at hl 3 rfl) ?_
  refine lv_iconst (v := 3) hx hb dL_law_248 (by decide) ?_
  refine lv_iadd hx hb dL_law_249 ?_
  refine va_sld hx hb hX hbl hbA hS h3 dL_law_250 ?_
  refine l_mi (avs := [.int (xs (i + 1).toNatClampNeg), .int (xs (i + 2).toNatClampNeg), .int (xs (i + 3).toNatClampNeg)]) ⟨hx, hb, hml, hown, hts⟩ hK.1 hB hA hS (mt_row hwp) (cwV 3 hts (lw_V q1461 q1462 q1463 q79 q1464) rfl rfl rfl (by decide +kernel) ⟨(Nat.le_of_ble_eq_true rfl), (Nat.le_of_ble_eq_true rfl)⟩) rfl hl.1 rfl (Nat.le_of_ble_eq_true rfl) dL_law_251 ⟨(show _ ≤ 603072 by omega), (show _ ≤ 7262314 by omega)⟩ (fun r2 u2 H locs hk hB hS => ?_)
  obtain ⟨eq, hR⟩ := hk
  refine lv_icmp_eq (tgt := 1435) hx hb dL_law_254 (by decide) (fun _ => ?_) (fun c9 => absurd eq c9)
  exact W.widen (k := cells + 4659) (n := slots + 33787) (by omega) (by omega) (kk _ _ _ _ _ _ h0 hR hB hS hl)
set_option maxHeartbeats 4000000 in
set_option maxRecDepth 100000 in
theorem lc_set {p : Program} {l : Launch} {e : Env} {s : State} {m : MethodId} {below : List Frame} {meth : Method} {c : Code} {b L : Nat} {xs : Nat → Int32} {Γ : GA} {α : Nat → Nat} {x : Nat} {RL : XSh → XSt → MSt → Nat → Prop} (X : CL p s m meth c b L xs Γ) (hst : l.stackTraces = false) (pl : Pl_set RL) {i : Int32} (h1 : vp_in (i + 1) L) (h2 : vp_in (i + 2) L) (h3 : vp_in (i + 3) L) (h4 : vp_in (i + 4) L) (h5 : vp_in (i + 5) L) {cells slots : Nat} (hc : cells + 4659 ≤ 603072) (hs : slots + 33787 ≤ 7262314) (kk : LT p l e s m below meth c b Γ α x RL i (cells + 4659) (slots + 33787) 1435) : LT p l e s m below meth c b Γ α x RL i cells slots 259 := by
  intro δ σ σm H locs ls h0 hR hB hS hl
  obtain ⟨hx, hb, hml, hown, hts, hK, hZ, hX, hbl⟩ := id X
  have hbA : ¬ AL s b := Nat.not_le.mpr hbl
  have hA : ∀ q, s.heap.size ≤ q → AL s q := fun _ h => h
  refine lv_aload_n hx hb dL_law_259 rfl (lv_at hl 1 rfl) ?_
  refine lv_aload_n hx hb dL_law_260 rfl (lv_at hl 0 rfl) ?_
  refine lv_iload_n hx hb dL_law_261 rfl (lv_at hl 3 rfl) ?_
  refine lv_iconst (v := 1) hx hb dL_law_262 (by decide) ?_
  refine lv_iadd hx hb dL_law_263 ?_
  refine va_sld hx hb hX hbl hbA hS h1 dL_law_264 ?_
  refine lv_aload_n hx hb dL_law_265 rfl (lv_at hl 0 rfl) ?_
  refine lv_iload_n hx hb dL_law_266 rfl (lv_at hl 3 rfl) ?_
  refine lv_iconst (v := 2) hx hb dL_law_267 (by decide) ?_
  refine lv_iadd hx hb dL_law_268 ?_
  refine va_sld hx hb hX hbl hbA hS h2 dL_law_269 ?_
  refine lv_aload_n hx hb dL_law_270 rfl (lv_at hl 0 rfl) ?_
  refine lv_iload_n hx hb dL_law_271 rfl (lv_at hl 3 rfl) ?_
  refine lv_iconst (v := 3) hx hb dL_law_272 (by decide) ?_
  refine lv_iadd hx hb dL_law_273 ?_
  refine va_sld hx hb hX hbl hbA hS h3 dL_law_274 ?_
  refine lv_i2l hx hb dL_law_275 rfl ?_
  refine lv_bipush (v := 32) hx hb dL_law_276 (by decide) ?_
  refine lv_lshl hx hb dL_law_278 rfl ?_
  refine lv_aload_n hx hb dL_law_279 rfl (lv_at hl 0 rfl) ?_
  refine lv_iload_n hx hb dL_law_280 rfl (lv_at hl 3 rfl) ?_
  refine lv_iconst (v := 4) hx hb dL_law_281 (by decide) ?_
  refine lv_iadd hx hb dL_law_282 ?_
  refine va_sld hx hb hX hbl hbA hS h4 dL_law_283 ?_
  refine lv_i2l hx hb dL_law_284 rfl ?_
  refine lv_ldc2 hx hb hown (hts _ q1830) dL_law_285 ?_
  refine lv_land hx hb dL_law_288 ?_
  refine lv_lor hx hb dL_law_289 ?_
  have hwp := pl δ σ σm x hR (xs (i + 1).toNatClampNeg) (xs (i + 2).toNatClampNeg) ((((xs (i + 3).toNatClampNeg).toInt64 <<< ((32 : Int32).toInt64 &&& 63)) ||| ((xs (i + 4).toNatClampNeg).toInt64 &&& 4294967295)))
  refine l_ygoi (vx_runVX (As := [.int (xs (i + 1).toNatClampNeg), .int (xs (i + 2).toNatClampNeg), .long ((((xs (i + 3).toNatClampNeg).toInt64 <<< ((32 : Int32).toInt64 &&& 63)) ||| ((xs (i + 4).toNatClampNeg).toInt64 &&& 4294967295)))]) (rest := []) ⟨hx, hb, hml, hown, hts⟩ (xt_S_set hst h0 hwp H.size) (vx_cwVW 3 hts (lw_VW q401 q402 q403 q75 q404) rfl rfl rfl (by decide +kernel) ⟨(Nat.le_of_ble_eq_true rfl), (Nat.le_of_ble_eq_true rfl)⟩) (y_preV hK hB.2.1 hB.2.2.1 hA hZ hB.1 hS 0 x h0 rfl rfl) rfl rfl hl.1 rfl (lv_room (Nat.le_of_ble_eq_true rfl)) dL_law_290 ⟨(show _ ≤ 603072 by omega), (show _ ≤ 7262314 by omega)⟩) hB hA hS (fun r1 u H locs hk hB hS => ?_)
  obtain ⟨hwp, hE⟩ := hk
  replace h0 := hE.m h0
  obtain ⟨δ, σ⟩ := u
  refine lv_aload_n hx hb dL_law_293 rfl (lv_at hl 2 rfl) ?_
  refine lv_aload_n hx hb dL_law_294 rfl (lv_at hl 0 rfl) ?_
  refine lv_iload_n hx hb dL_law_295 rfl (lv_at hl 3 rfl) ?_
  refine lv_iconst (v := 1) hx hb dL_law_296 (by decide) ?_
  refine lv_iadd hx hb dL_law_297 ?_
  refine va_sld hx hb hX hbl hbA hS h1 dL_law_298 ?_
  refine lv_aload_n hx hb dL_law_299 rfl (lv_at hl 0 rfl) ?_
  refine lv_iload_n hx hb dL_law_300 rfl (lv_at hl 3 rfl) ?_
  refine lv_iconst (v := 2) hx hb dL_law_301 (by decide) ?_
  refine lv_iadd hx hb dL_law_302 ?_
  refine va_sld hx hb hX hbl hbA hS h2 dL_law_303 ?_
  refine lv_aload_n hx hb dL_law_304 rfl (lv_at hl 0 rfl) ?_
  refine lv_iload_n hx hb dL_law_305 rfl (lv_at hl 3 rfl) ?_
  refine lv_iconst (v := 3) hx hb dL_law_306 (by decide) ?_
  refine lv_iadd hx hb dL_law_307 ?_
  refine va_sld hx hb hX hbl hbA hS h3 dL_law_308 ?_
  refine lv_i2l hx hb dL_law_309 rfl ?_
  refine lv_bipush (v := 32) hx hb dL_law_310 (by decide) ?_
  refine lv_lshl hx hb dL_law_312 rfl ?_
  refine lv_aload_n hx hb dL_law_313 rfl (lv_at hl 0 rfl) ?_
  refine lv_iload_n hx hb dL_law_314 rfl (lv_at hl 3 rfl) ?_
  refine lv_iconst (v := 4) hx hb dL_law_315 (by decide) ?_
  refine lv_iadd hx hb dL_law_316 ?_
  refine va_sld hx hb hX hbl hbA hS h4 dL_law_317 ?_
  refine lv_i2l hx hb dL_law_318 rfl ?_
  refine lv_ldc2 hx hb hown (hts _ q1830) dL_law_319 ?_
  refine lv_land hx hb dL_law_322 ?_
  refine lv_lor hx hb dL_law_323 ?_
  refine l_mi (avs := [.int (xs (i + 1).toNatClampNeg), .int (xs (i + 2).toNatClampNeg), .long ((((xs (i + 3).toNatClampNeg).toInt64 <<< ((32 : Int32).toInt64 &&& 63)) ||| ((xs (i + 4).toNatClampNeg).toInt64 &&& 4294967295)))]) ⟨hx, hb, hml, hown, hts⟩ hK.1 hB hA hS (mt_set hwp) (cwV 3 hts (lw_V q1473 q1474 q1475 q79 q1476) rfl rfl rfl (by decide +kernel) ⟨(Nat.le_of_ble_eq_true rfl), (Nat.le_of_ble_eq_true rfl)⟩) rfl hl.1 rfl (Nat.le_of_ble_eq_true rfl) dL_law_324 ⟨(show _ ≤ 603072 by omega), (show _ ≤ 7262314 by omega)⟩ (fun r2 u2 H locs hk hB hS => ?_)
  obtain ⟨eq, hR⟩ := hk
  refine lv_icmp_eq (tgt := 1435) hx hb dL_law_327 (by decide) (fun _ => ?_) (fun c9 => absurd eq c9)
  exact W.widen (k := cells + 4659) (n := slots + 33787) (by omega) (by omega) (kk _ _ _ _ _ _ h0 hR hB hS hl)
set_option maxHeartbeats 4000000 in
set_option maxRecDepth 100000 in
theorem lc_copy {p : Program} {l : Launch} {e : Env} {s : State} {m : MethodId} {below : List Frame} {meth : Method} {c : Code} {b L : Nat} {xs : Nat → Int32} {Γ : GA} {α : Nat → Nat} {x : Nat} {RL : XSh → XSt → MSt → Nat → Prop} (X : CL p s m meth c b L xs Γ) (hst : l.stackTraces = false) (pl : Pl_copy RL) {i : Int32} (h1 : vp_in (i + 1) L) (h2 : vp_in (i + 2) L) (h3 : vp_in (i + 3) L) (h4 : vp_in (i + 4) L) (h5 : vp_in (i + 5) L) {cells slots : Nat} (hc : cells + 4659 ≤ 603072) (hs : slots + 33787 ≤ 7262314) (kk : LT p l e s m below meth c b Γ α x RL i (cells + 4659) (slots + 33787) 1435) : LT p l e s m below meth c b Γ α x RL i cells slots 332 := by
  intro δ σ σm H locs ls h0 hR hB hS hl
  obtain ⟨hx, hb, hml, hown, hts, hK, hZ, hX, hbl⟩ := id X
  have hbA : ¬ AL s b := Nat.not_le.mpr hbl
  have hA : ∀ q, s.heap.size ≤ q → AL s q := fun _ h => h
  refine lv_aload_n hx hb dL_law_332 rfl (lv_at hl 1 rfl) ?_
  refine lv_aload_n hx hb dL_law_333 rfl (lv_at hl 0 rfl) ?_
  refine lv_iload_n hx hb dL_law_334 rfl (lv_at hl 3 rfl) ?_
  refine lv_iconst (v := 1) hx hb dL_law_335 (by decide) ?_
  refine lv_iadd hx hb dL_law_336 ?_
  refine va_sld hx hb hX hbl hbA hS h1 dL_law_337 ?_
  refine lv_aload_n hx hb dL_law_338 rfl (lv_at hl 0 rfl) ?_
  refine lv_iload_n hx hb dL_law_339 rfl (lv_at hl 3 rfl) ?_
  refine lv_iconst (v := 2) hx hb dL_law_340 (by decide) ?_
  refine lv_iadd hx hb dL_law_341 ?_
  refine va_sld hx hb hX hbl hbA hS h2 dL_law_342 ?_
  refine lv_aload_n hx hb dL_law_343 rfl (lv_at hl 0 rfl) ?_
  refine lv_iload_n hx hb dL_law_344 rfl (lv_at hl 3 rfl) ?_
  refine lv_iconst (v := 3) hx hb dL_law_345 (by decide) ?_
  refine lv_iadd hx hb dL_law_346 ?_
  refine va_sld hx hb hX hbl hbA hS h3 dL_law_347 ?_
  refine lv_aload_n hx hb dL_law_348 rfl (lv_at hl 0 rfl) ?_
  refine lv_iload_n hx hb dL_law_349 rfl (lv_at hl 3 rfl) ?_
  refine lv_iconst (v := 4) hx hb dL_law_350 (by decide) ?_
  refine lv_iadd hx hb dL_law_351 ?_
  refine va_sld hx hb hX hbl hbA hS h4 dL_law_352 ?_
  refine lv_aload_n hx hb dL_law_353 rfl (lv_at hl 0 rfl) ?_
  refine lv_iload_n hx hb dL_law_354 rfl (lv_at hl 3 rfl) ?_
  refine lv_iconst (v := 5) hx hb dL_law_355 (by decide) ?_
  refine lv_iadd hx hb dL_law_356 ?_
  refine va_sld hx hb hX hbl hbA hS h5 dL_law_357 ?_
  have hwp := pl δ σ σm x hR (xs (i + 1).toNatClampNeg) (xs (i + 2).toNatClampNeg) (xs (i + 3).toNatClampNeg) (xs (i + 4).toNatClampNeg) (xs (i + 5).toNatClampNeg)
  refine l_ygoi (vx_runVX (As := [.int (xs (i + 1).toNatClampNeg), .int (xs (i + 2).toNatClampNeg), .int (xs (i + 3).toNatClampNeg), .int (xs (i + 4).toNatClampNeg), .int (xs (i + 5).toNatClampNeg)]) (rest := []) ⟨hx, hb, hml, hown, hts⟩ (xt_S_copy hst h0 hwp H.size) (vx_cwVW 5 hts (lw_VW q442 q443 q444 q75 q445) rfl rfl rfl (by decide +kernel) ⟨(Nat.le_of_ble_eq_true rfl), (Nat.le_of_ble_eq_true rfl)⟩) (y_preV hK hB.2.1 hB.2.2.1 hA hZ hB.1 hS 0 x h0 rfl rfl) rfl rfl hl.1 rfl (lv_room (Nat.le_of_ble_eq_true rfl)) dL_law_358 ⟨(show _ ≤ 603072 by omega), (show _ ≤ 7262314 by omega)⟩) hB hA hS (fun r1 u H locs hk hB hS => ?_)
  obtain ⟨hwp, hE⟩ := hk
  replace h0 := hE.m h0
  obtain ⟨δ, σ⟩ := u
  refine lv_aload_n hx hb dL_law_361 rfl (lv_at hl 2 rfl) ?_
  refine lv_aload_n hx hb dL_law_362 rfl (lv_at hl 0 rfl) ?_
  refine lv_iload_n hx hb dL_law_363 rfl (lv_at hl 3 rfl) ?_
  refine lv_iconst (v := 1) hx hb dL_law_364 (by decide) ?_
  refine lv_iadd hx hb dL_law_365 ?_
  refine va_sld hx hb hX hbl hbA hS h1 dL_law_366 ?_
  refine lv_aload_n hx hb dL_law_367 rfl (lv_at hl 0 rfl) ?_
  refine lv_iload_n hx hb dL_law_368 rfl (lv_at hl 3 rfl) ?_
  refine lv_iconst (v := 2) hx hb dL_law_369 (by decide) ?_
  refine lv_iadd hx hb dL_law_370 ?_
  refine va_sld hx hb hX hbl hbA hS h2 dL_law_371 ?_
  refine lv_aload_n hx hb dL_law_372 rfl (lv_at hl 0 rfl) ?_
  refine lv_iload_n hx hb dL_law_373 rfl (lv_at hl 3 rfl) ?_
  refine lv_iconst (v := 3) hx hb dL_law_374 (by decide) ?_
  refine lv_iadd hx hb dL_law_375 ?_
  refine va_sld hx hb hX hbl hbA hS h3 dL_law_376 ?_
  refine lv_aload_n hx hb dL_law_377 rfl (lv_at hl 0 rfl) ?_
  refine lv_iload_n hx hb dL_law_378 rfl (lv_at hl 3 rfl) ?_
  refine lv_iconst (v := 4) hx hb dL_law_379 (by decide) ?_
  refine lv_iadd hx hb dL_law_380 ?_
  refine va_sld hx hb hX hbl hbA hS h4 dL_law_381 ?_
  refine lv_aload_n hx hb dL_law_382 rfl (lv_at hl 0 rfl) ?_
  refine lv_iload_n hx hb dL_law_383 rfl (lv_at hl 3 rfl) ?_
  refine lv_iconst (v := 5) hx hb dL_law_384 (by decide) ?_
  refine lv_iadd hx hb dL_law_385 ?_
  refine va_sld hx hb hX hbl hbA hS h5 dL_law_386 ?_
  refine l_mi (avs := [.int (xs (i + 1).toNatClampNeg), .int (xs (i + 2).toNatClampNeg), .int (xs (i + 3).toNatClampNeg), .int (xs (i + 4).toNatClampNeg), .int (xs (i + 5).toNatClampNeg)]) ⟨hx, hb, hml, hown, hts⟩ hK.1 hB hA hS (mt_copy hwp) (cwV 5 hts (lw_V q1477 q1478 q1479 q79 q1480) rfl rfl rfl (by decide +kernel) ⟨(Nat.le_of_ble_eq_true rfl), (Nat.le_of_ble_eq_true rfl)⟩) rfl hl.1 rfl (Nat.le_of_ble_eq_true rfl) dL_law_387 ⟨(show _ ≤ 603072 by omega), (show _ ≤ 7262314 by omega)⟩ (fun r2 u2 H locs hk hB hS => ?_)
  obtain ⟨eq, hR⟩ := hk
  refine lv_icmp_eq (tgt := 1435) hx hb dL_law_390 (by decide) (fun _ => ?_) (fun c9 => absurd eq c9)
  exact W.widen (k := cells + 4659) (n := slots + 33787) (by omega) (by omega) (kk _ _ _ _ _ _ h0 hR hB hS hl)
set_option maxHeartbeats 4000000 in
set_option maxRecDepth 100000 in
theorem lc_element {p : Program} {l : Launch} {e : Env} {s : State} {m : MethodId} {below : List Frame} {meth : Method} {c : Code} {b L : Nat} {xs : Nat → Int32} {Γ : GA} {α : Nat → Nat} {x : Nat} {RL : XSh → XSt → MSt → Nat → Prop} (X : CL p s m meth c b L xs Γ) (hst : l.stackTraces = false) (pl : Pl_element RL) {i : Int32} (h1 : vp_in (i + 1) L) (h2 : vp_in (i + 2) L) (h3 : vp_in (i + 3) L) (h4 : vp_in (i + 4) L) (h5 : vp_in (i + 5) L) {cells slots : Nat} (hc : cells + 4659 ≤ 603072) (hs : slots + 33787 ≤ 7262314) (kk : LT p l e s m below meth c b Γ α x RL i (cells + 4659) (slots + 33787) 1435) : LT p l e s m below meth c b Γ α x RL i cells slots 395 := by
  intro δ σ σm H locs ls h0 hR hB hS hl
  obtain ⟨hx, hb, hml, hown, hts, hK, hZ, hX, hbl⟩ := id X
  have hbA : ¬ AL s b := Nat.not_le.mpr hbl
  have hA : ∀ q, s.heap.size ≤ q → AL s q := fun _ h => h
  refine lv_aload_n hx hb dL_law_395 rfl (lv_at hl 1 rfl) ?_
  refine lv_aload_n hx hb dL_law_396 rfl (lv_at hl 0 rfl) ?_
  refine lv_iload_n hx hb dL_law_397 rfl (lv_at hl 3 rfl) ?_
  refine lv_iconst (v := 1) hx hb dL_law_398 (by decide) ?_
  refine lv_iadd hx hb dL_law_399 ?_
  refine va_sld hx hb hX hbl hbA hS h1 dL_law_400 ?_
  refine lv_aload_n hx hb dL_law_401 rfl (lv_at hl 0 rfl) ?_
  refine lv_iload_n hx hb dL_law_402 rfl (lv_at hl 3 rfl) ?_
  refine lv_iconst (v := 2) hx hb dL_law_403 (by decide) ?_
  refine lv_iadd hx hb dL_law_404 ?_
  refine va_sld hx hb hX hbl hbA hS h2 dL_law_405 ?_
  have hwp := pl δ σ σm x hR (xs (i + 1).toNatClampNeg) (xs (i + 2).toNatClampNeg)
  refine l_ygol (vx_runVX (As := [.int (xs (i + 1).toNatClampNeg), .int (xs (i + 2).toNatClampNeg)]) (rest := []) ⟨hx, hb, hml, hown, hts⟩ (xt_S_element hst h0 hwp H.size) (vx_cwVW 2 hts (lw_VW q485 q486 q487 q75 q488) rfl rfl rfl (by decide +kernel) ⟨(Nat.le_of_ble_eq_true rfl), (Nat.le_of_ble_eq_true rfl)⟩) (y_preV hK hB.2.1 hB.2.2.1 hA hZ hB.1 hS 0 x h0 rfl rfl) rfl rfl hl.1 rfl (lv_room (Nat.le_of_ble_eq_true rfl)) dL_law_406 ⟨(show _ ≤ 603072 by omega), (show _ ≤ 7262314 by omega)⟩) hB hA hS (fun r1 u H locs hk hB hS => ?_)
  obtain ⟨hwp, hE⟩ := hk
  replace h0 := hE.m h0
  obtain ⟨δ, σ⟩ := u
  refine lv_aload_n hx hb dL_law_409 rfl (lv_at hl 2 rfl) ?_
  refine lv_aload_n hx hb dL_law_410 rfl (lv_at hl 0 rfl) ?_
  refine lv_iload_n hx hb dL_law_411 rfl (lv_at hl 3 rfl) ?_
  refine lv_iconst (v := 1) hx hb dL_law_412 (by decide) ?_
  refine lv_iadd hx hb dL_law_413 ?_
  refine va_sld hx hb hX hbl hbA hS h1 dL_law_414 ?_
  refine lv_aload_n hx hb dL_law_415 rfl (lv_at hl 0 rfl) ?_
  refine lv_iload_n hx hb dL_law_416 rfl (lv_at hl 3 rfl) ?_
  refine lv_iconst (v := 2) hx hb dL_law_417 (by decide) ?_
  refine lv_iadd hx hb dL_law_418 ?_
  refine va_sld hx hb hX hbl hbA hS h2 dL_law_419 ?_
  refine l_ml (avs := [.int (xs (i + 1).toNatClampNeg), .int (xs (i + 2).toNatClampNeg)]) ⟨hx, hb, hml, hown, hts⟩ hK.1 hB hA hS (mt_element hwp) (cwV 2 hts (lw_V q1481 q1482 q1483 q79 q1484) rfl rfl rfl (by decide +kernel) ⟨(Nat.le_of_ble_eq_true rfl), (Nat.le_of_ble_eq_true rfl)⟩) rfl hl.1 rfl (Nat.le_of_ble_eq_true rfl) dL_law_420 ⟨(show _ ≤ 603072 by omega), (show _ ≤ 7262314 by omega)⟩ (fun r2 u2 H locs hk hB hS => ?_)
  obtain ⟨⟨eq, hR⟩, hu⟩ := hk
  replace hu := hu.symm
  subst hu
  refine W.lcmp hx hb dL_law_423 ?_
  refine lv_if_eq (tgt := 1435) hx hb dL_law_424 (by decide) (fun _ => ?_) (fun c9 => absurd ((lg_cmp_eq _ _).mpr eq) c9)
  exact W.widen (k := cells + 4659) (n := slots + 33787) (by omega) (by omega) (kk _ _ _ _ _ _ h0 hR hB hS hl)
set_option maxHeartbeats 4000000 in
set_option maxRecDepth 100000 in
theorem lc_show {p : Program} {l : Launch} {e : Env} {s : State} {m : MethodId} {below : List Frame} {meth : Method} {c : Code} {b L : Nat} {xs : Nat → Int32} {Γ : GA} {α : Nat → Nat} {x : Nat} {RL : XSh → XSt → MSt → Nat → Prop} (X : CL p s m meth c b L xs Γ) (hst : l.stackTraces = false) (pl : Pl_show RL) {i : Int32} (h1 : vp_in (i + 1) L) (h2 : vp_in (i + 2) L) (h3 : vp_in (i + 3) L) (h4 : vp_in (i + 4) L) (h5 : vp_in (i + 5) L) {cells slots : Nat} (hc : cells + 4659 ≤ 603072) (hs : slots + 33787 ≤ 7262314) (kk : LT p l e s m below meth c b Γ α x RL i (cells + 4659) (slots + 33787) 1435) : LT p l e s m below meth c b Γ α x RL i cells slots 429 := by
  intro δ σ σm H locs ls h0 hR hB hS hl
  obtain ⟨hx, hb, hml, hown, hts, hK, hZ, hX, hbl⟩ := id X
  have hbA : ¬ AL s b := Nat.not_le.mpr hbl
  have hA : ∀ q, s.heap.size ≤ q → AL s q := fun _ h => h
  refine lv_aload_n hx hb dL_law_429 rfl (lv_at hl 1 rfl) ?_
  refine lv_aload_n hx hb dL_law_430 rfl (lv_at hl 0 rfl) ?_
  refine lv_iload_n hx hb dL_law_431 rfl (lv_at hl 3 rfl) ?_
  refine lv_iconst (v := 1) hx hb dL_law_432 (by decide) ?_
  refine lv_iadd hx hb dL_law_433 ?_
  refine va_sld hx hb hX hbl hbA hS h1 dL_law_434 ?_
  refine lv_aload_n hx hb dL_law_435 rfl (lv_at hl 0 rfl) ?_
  refine lv_iload_n hx hb dL_law_436 rfl (lv_at hl 3 rfl) ?_
  refine lv_iconst (v := 2) hx hb dL_law_437 (by decide) ?_
  refine lv_iadd hx hb dL_law_438 ?_
  refine va_sld hx hb hX hbl hbA hS h2 dL_law_439 ?_
  have hwp := pl δ σ σm x hR (xs (i + 1).toNatClampNeg) (xs (i + 2).toNatClampNeg)
  refine l_ygoi (vx_runVX (As := [.int (xs (i + 1).toNatClampNeg), .int (xs (i + 2).toNatClampNeg)]) (rest := []) ⟨hx, hb, hml, hown, hts⟩ (xt_S_show hst h0 hwp H.size) (vx_cwVW 2 hts (lw_VW q504 q505 q506 q75 q507) rfl rfl rfl (by decide +kernel) ⟨(Nat.le_of_ble_eq_true rfl), (Nat.le_of_ble_eq_true rfl)⟩) (y_preV hK hB.2.1 hB.2.2.1 hA hZ hB.1 hS 0 x h0 rfl rfl) rfl rfl hl.1 rfl (lv_room (Nat.le_of_ble_eq_true rfl)) dL_law_440 ⟨(show _ ≤ 603072 by omega), (show _ ≤ 7262314 by omega)⟩) hB hA hS (fun r1 u H locs hk hB hS => ?_)
  obtain ⟨hwp, hE⟩ := hk
  replace h0 := hE.m h0
  obtain ⟨δ, σ⟩ := u
  refine lv_aload_n hx hb dL_law_443 rfl (lv_at hl 2 rfl) ?_
  refine lv_aload_n hx hb dL_law_444 rfl (lv_at hl 0 rfl) ?_
  refine lv_iload_n hx hb dL_law_445 rfl (lv_at hl 3 rfl) ?_
  refine lv_iconst (v := 1) hx hb dL_law_446 (by decide) ?_
  refine lv_iadd hx hb dL_law_447 ?_
  refine va_sld hx hb hX hbl hbA hS h1 dL_law_448 ?_
  refine lv_aload_n hx hb dL_law_449 rfl (lv_at hl 0 rfl) ?_
  refine lv_iload_n hx hb dL_law_450 rfl (lv_at hl 3 rfl) ?_
  refine lv_iconst (v := 2) hx hb dL_law_451 (by decide) ?_
  refine lv_iadd hx hb dL_law_452 ?_
  refine va_sld hx hb hX hbl hbA hS h2 dL_law_453 ?_
  refine l_mi (avs := [.int (xs (i + 1).toNatClampNeg), .int (xs (i + 2).toNatClampNeg)]) ⟨hx, hb, hml, hown, hts⟩ hK.1 hB hA hS (mt_show hwp) (cwV 2 hts (lw_V q1485 q1486 q1487 q79 q1488) rfl rfl rfl (by decide +kernel) ⟨(Nat.le_of_ble_eq_true rfl), (Nat.le_of_ble_eq_true rfl)⟩) rfl hl.1 rfl (Nat.le_of_ble_eq_true rfl) dL_law_454 ⟨(show _ ≤ 603072 by omega), (show _ ≤ 7262314 by omega)⟩ (fun r2 u2 H locs hk hB hS => ?_)
  obtain ⟨eq, hR⟩ := hk
  refine lv_icmp_eq (tgt := 1435) hx hb dL_law_457 (by decide) (fun _ => ?_) (fun c9 => absurd eq c9)
  exact W.widen (k := cells + 4659) (n := slots + 33787) (by omega) (by omega) (kk _ _ _ _ _ _ h0 hR hB hS hl)
set_option maxHeartbeats 4000000 in
set_option maxRecDepth 100000 in
theorem lc_holds {p : Program} {l : Launch} {e : Env} {s : State} {m : MethodId} {below : List Frame} {meth : Method} {c : Code} {b L : Nat} {xs : Nat → Int32} {Γ : GA} {α : Nat → Nat} {x : Nat} {RL : XSh → XSt → MSt → Nat → Prop} (X : CL p s m meth c b L xs Γ) (hst : l.stackTraces = false) (pl : Pl_holds RL) {i : Int32} (h1 : vp_in (i + 1) L) (h2 : vp_in (i + 2) L) (h3 : vp_in (i + 3) L) (h4 : vp_in (i + 4) L) (h5 : vp_in (i + 5) L) {cells slots : Nat} (hc : cells + 4659 ≤ 603072) (hs : slots + 33787 ≤ 7262314) (kk : LT p l e s m below meth c b Γ α x RL i (cells + 4659) (slots + 33787) 1435) : LT p l e s m below meth c b Γ α x RL i cells slots 462 := by
  intro δ σ σm H locs ls h0 hR hB hS hl
  obtain ⟨hx, hb, hml, hown, hts, hK, hZ, hX, hbl⟩ := id X
  have hbA : ¬ AL s b := Nat.not_le.mpr hbl
  have hA : ∀ q, s.heap.size ≤ q → AL s q := fun _ h => h
  refine lv_aload_n hx hb dL_law_462 rfl (lv_at hl 1 rfl) ?_
  refine lv_aload_n hx hb dL_law_463 rfl (lv_at hl 0 rfl) ?_
  refine lv_iload_n hx hb dL_law_464 rfl (lv_at hl 3 rfl) ?_
  refine lv_iconst (v := 1) hx hb dL_law_465 (by decide) ?_
  refine lv_iadd hx hb dL_law_466 ?_
  refine va_sld hx hb hX hbl hbA hS h1 dL_law_467 ?_
  have hwp := pl δ σ σm x hR (xs (i + 1).toNatClampNeg)
  refine l_goi (va_runV (As := [.int (xs (i + 1).toNatClampNeg)]) (rest := []) ⟨hx, hb, hml, hown, hts⟩ (xt_S_holds h0 hwp H.size) (cwV 1 hts (lw_V q517 q518 q519 q75 q520) rfl rfl rfl (by decide +kernel) ⟨(Nat.le_of_ble_eq_true rfl), (Nat.le_of_ble_eq_true rfl)⟩) (x_preV hK hB.2.1 hB.2.2.1 hB.1 0 x h0 rfl rfl) rfl rfl hl.1 rfl (lv_room (Nat.le_of_ble_eq_true rfl)) dL_law_468 ⟨(show _ ≤ 603072 by omega), (show _ ≤ 7262314 by omega)⟩) hB hA hS (fun r1 u H locs hk hB hS => ?_)
  obtain ⟨hwp, hE⟩ := hk
  obtain ⟨δ1, σ1⟩ := u
  cases hE
  refine lv_aload_n hx hb dL_law_471 rfl (lv_at hl 2 rfl) ?_
  refine lv_aload_n hx hb dL_law_472 rfl (lv_at hl 0 rfl) ?_
  refine lv_iload_n hx hb dL_law_473 rfl (lv_at hl 3 rfl) ?_
  refine lv_iconst (v := 1) hx hb dL_law_474 (by decide) ?_
  refine lv_iadd hx hb dL_law_475 ?_
  refine va_sld hx hb hX hbl hbA hS h1 dL_law_476 ?_
  refine l_mi (avs := [.int (xs (i + 1).toNatClampNeg)]) ⟨hx, hb, hml, hown, hts⟩ hK.1 hB hA hS (mt_holds hwp) (cwV 1 hts (lw_V q1493 q1494 q1495 q79 q1496) rfl rfl rfl (by decide +kernel) ⟨(Nat.le_of_ble_eq_true rfl), (Nat.le_of_ble_eq_true rfl)⟩) rfl hl.1 rfl (Nat.le_of_ble_eq_true rfl) dL_law_477 ⟨(show _ ≤ 603072 by omega), (show _ ≤ 7262314 by omega)⟩ (fun r2 u2 H locs hk hB hS => ?_)
  obtain ⟨⟨eq, hR⟩, hu⟩ := hk
  replace hu := hu.symm
  subst hu
  refine lv_icmp_eq (tgt := 1435) hx hb dL_law_480 (by decide) (fun _ => ?_) (fun c9 => absurd eq c9)
  exact W.widen (k := cells + 4659) (n := slots + 33787) (by omega) (by omega) (kk _ _ _ _ _ _ h0 hR hB hS hl)
set_option maxHeartbeats 4000000 in
set_option maxRecDepth 100000 in
theorem lc_says {p : Program} {l : Launch} {e : Env} {s : State} {m : MethodId} {below : List Frame} {meth : Method} {c : Code} {b L : Nat} {xs : Nat → Int32} {Γ : GA} {α : Nat → Nat} {x : Nat} {RL : XSh → XSt → MSt → Nat → Prop} (X : CL p s m meth c b L xs Γ) (hst : l.stackTraces = false) (pl : Pl_says RL) {i : Int32} (h1 : vp_in (i + 1) L) (h2 : vp_in (i + 2) L) (h3 : vp_in (i + 3) L) (h4 : vp_in (i + 4) L) (h5 : vp_in (i + 5) L) {cells slots : Nat} (hc : cells + 4659 ≤ 603072) (hs : slots + 33787 ≤ 7262314) (kk : LT p l e s m below meth c b Γ α x RL i (cells + 4659) (slots + 33787) 1435) : LT p l e s m below meth c b Γ α x RL i cells slots 485 := by
  intro δ σ σm H locs ls h0 hR hB hS hl
  obtain ⟨hx, hb, hml, hown, hts, hK, hZ, hX, hbl⟩ := id X
  have hbA : ¬ AL s b := Nat.not_le.mpr hbl
  have hA : ∀ q, s.heap.size ≤ q → AL s q := fun _ h => h
  refine lv_aload_n hx hb dL_law_485 rfl (lv_at hl 1 rfl) ?_
  refine lv_aload_n hx hb dL_law_486 rfl (lv_at hl 0 rfl) ?_
  refine lv_iload_n hx hb dL_law_487 rfl (lv_at hl 3 rfl) ?_
  refine lv_iconst (v := 1) hx hb dL_law_488 (by decide) ?_
  refine lv_iadd hx hb dL_law_489 ?_
  refine va_sld hx hb hX hbl hbA hS h1 dL_law_490 ?_
  refine lv_aload_n hx hb dL_law_491 rfl (lv_at hl 0 rfl) ?_
  refine lv_iload_n hx hb dL_law_492 rfl (lv_at hl 3 rfl) ?_
  refine lv_iconst (v := 2) hx hb dL_law_493 (by decide) ?_
  refine lv_iadd hx hb dL_law_494 ?_
  refine va_sld hx hb hX hbl hbA hS h2 dL_law_495 ?_
  have hwp := pl δ σ σm x hR (xs (i + 1).toNatClampNeg) (xs (i + 2).toNatClampNeg)
  refine l_ygoi (vx_runVX (As := [.int (xs (i + 1).toNatClampNeg), .int (xs (i + 2).toNatClampNeg)]) (rest := []) ⟨hx, hb, hml, hown, hts⟩ (xt_S_says hst h0 hwp H.size) (vx_cwVW 2 hts (lw_VW q523 q524 q525 q75 q526) rfl rfl rfl (by decide +kernel) ⟨(Nat.le_of_ble_eq_true rfl), (Nat.le_of_ble_eq_true rfl)⟩) (y_preV hK hB.2.1 hB.2.2.1 hA hZ hB.1 hS 0 x h0 rfl rfl) rfl rfl hl.1 rfl (lv_room (Nat.le_of_ble_eq_true rfl)) dL_law_496 ⟨(show _ ≤ 603072 by omega), (show _ ≤ 7262314 by omega)⟩) hB hA hS (fun r1 u H locs hk hB hS => ?_)
  obtain ⟨hwp, hE⟩ := hk
  replace h0 := hE.m h0
  obtain ⟨δ, σ⟩ := u
  refine lv_aload_n hx hb dL_law_499 rfl (lv_at hl 2 rfl) ?_
  refine lv_aload_n hx hb dL_law_500 rfl (lv_at hl 0 rfl) ?_
  refine lv_iload_n hx hb dL_law_501 rfl (lv_at hl 3 rfl) ?_
  refine lv_iconst (v := 1) hx hb dL_law_502 (by decide) ?_
  refine lv_iadd hx hb dL_law_503 ?_
  refine va_sld hx hb hX hbl hbA hS h1 dL_law_504 ?_
  refine lv_aload_n hx hb dL_law_505 rfl (lv_at hl 0 rfl) ?_
  refine lv_iload_n hx hb dL_law_506 rfl (lv_at hl 3 rfl) ?_
  refine lv_iconst (v := 2) hx hb dL_law_507 (by decide) ?_
  refine lv_iadd hx hb dL_law_508 ?_
  refine va_sld hx hb hX hbl hbA hS h2 dL_law_509 ?_
  refine l_mi (avs := [.int (xs (i + 1).toNatClampNeg), .int (xs (i + 2).toNatClampNeg)]) ⟨hx, hb, hml, hown, hts⟩ hK.1 hB hA hS (mt_says hwp) (cwV 2 hts (lw_V q1497 q1498 q1499 q79 q1500) rfl rfl rfl (by decide +kernel) ⟨(Nat.le_of_ble_eq_true rfl), (Nat.le_of_ble_eq_true rfl)⟩) rfl hl.1 rfl (Nat.le_of_ble_eq_true rfl) dL_law_510 ⟨(show _ ≤ 603072 by omega), (show _ ≤ 7262314 by omega)⟩ (fun r2 u2 H locs hk hB hS => ?_)
  obtain ⟨eq, hR⟩ := hk
  refine lv_icmp_eq (tgt := 1435) hx hb dL_law_513 (by decide) (fun _ => ?_) (fun c9 => absurd eq c9)
  exact W.widen (k := cells + 4659) (n := slots + 33787) (by omega) (by omega) (kk _ _ _ _ _ _ h0 hR hB hS hl)
set_option maxHeartbeats 4000000 in
set_option maxRecDepth 100000 in
theorem lc_thing {p : Program} {l : Launch} {e : Env} {s : State} {m : MethodId} {below : List Frame} {meth : Method} {c : Code} {b L : Nat} {xs : Nat → Int32} {Γ : GA} {α : Nat → Nat} {x : Nat} {RL : XSh → XSt → MSt → Nat → Prop} (X : CL p s m meth c b L xs Γ) (hst : l.stackTraces = false) (pl : Pl_thing RL) {i : Int32} (h1 : vp_in (i + 1) L) (h2 : vp_in (i + 2) L) (h3 : vp_in (i + 3) L) (h4 : vp_in (i + 4) L) (h5 : vp_in (i + 5) L) {cells slots : Nat} (hc : cells + 4659 ≤ 603072) (hs : slots + 33787 ≤ 7262314) (kk : LT p l e s m below meth c b Γ α x RL i (cells + 4659) (slots + 33787) 1435) : LT p l e s m below meth c b Γ α x RL i cells slots 518 := by
  intro δ σ σm H locs ls h0 hR hB hS hl
  obtain ⟨hx, hb, hml, hown, hts, hK, hZ, hX, hbl⟩ := id X
  have hbA : ¬ AL s b := Nat.not_le.mpr hbl
  have hA : ∀ q, s.heap.size ≤ q → AL s q := fun _ h => h
  refine lv_aload_n hx hb dL_law_518 rfl (lv_at hl 1 rfl) ?_
  refine lv_aload_n hx hb dL_law_519 rfl (lv_at hl 0 rfl) ?_
  refine lv_iload_n hx hb dL_law_520 rfl (lv_at hl 3 rfl) ?_
  refine lv_iconst (v := 1) hx hb dL_law_521 (by decide) ?_
  refine lv_iadd hx hb dL_law_522 ?_
  refine va_sld hx hb hX hbl hbA hS h1 dL_law_523 ?_
  refine lv_aload_n hx hb dL_law_524 rfl (lv_at hl 0 rfl) ?_
  refine lv_iload_n hx hb dL_law_525 rfl (lv_at hl 3 rfl) ?_
  refine lv_iconst (v := 2) hx hb dL_law_526 (by decide) ?_
  refine lv_iadd hx hb dL_law_527 ?_
  refine va_sld hx hb hX hbl hbA hS h2 dL_law_528 ?_
  refine lv_aload_n hx hb dL_law_529 rfl (lv_at hl 0 rfl) ?_
  refine lv_iload_n hx hb dL_law_530 rfl (lv_at hl 3 rfl) ?_
  refine lv_iconst (v := 3) hx hb dL_law_531 (by decide) ?_
  refine lv_iadd hx hb dL_law_532 ?_
  refine va_sld hx hb hX hbl hbA hS h3 dL_law_533 ?_
  refine lv_aload_n hx hb dL_law_534 rfl (lv_at hl 0 rfl) ?_
  refine lv_iload_n hx hb dL_law_535 rfl (lv_at hl 3 rfl) ?_
  refine lv_iconst (v := 4) hx hb dL_law_536 (by decide) ?_
  refine lv_iadd hx hb dL_law_537 ?_
  refine va_sld hx hb hX hbl hbA hS h4 dL_law_538 ?_
  refine lv_aload_n hx hb dL_law_539 rfl (lv_at hl 0 rfl) ?_
  refine lv_iload_n hx hb dL_law_540 rfl (lv_at hl 3 rfl) ?_
  refine lv_iconst (v := 5) hx hb dL_law_541 (by decide) ?_
  refine lv_iadd hx hb dL_law_542 ?_
  refine va_sld hx hb hX hbl hbA hS h5 dL_law_543 ?_
  have hwp := pl δ σ σm x hR (xs (i + 1).toNatClampNeg) (xs (i + 2).toNatClampNeg) (xs (i + 3).toNatClampNeg) (xs (i + 4).toNatClampNeg) (xs (i + 5).toNatClampNeg)
  refine l_ygoi (vx_runVX (As := [.int (xs (i + 1).toNatClampNeg), .int (xs (i + 2).toNatClampNeg), .int (xs (i + 3).toNatClampNeg), .int (xs (i + 4).toNatClampNeg), .int (xs (i + 5).toNatClampNeg)]) (rest := []) ⟨hx, hb, hml, hown, hts⟩ (xt_S_thing hst h0 hwp H.size) (vx_cwVW 5 hts (lw_VW q689 q690 q691 q75 q692) rfl rfl rfl (by decide +kernel) ⟨(Nat.le_of_ble_eq_true rfl), (Nat.le_of_ble_eq_true rfl)⟩) (y_preV hK hB.2.1 hB.2.2.1 hA hZ hB.1 hS 0 x h0 rfl rfl) rfl rfl hl.1 rfl (lv_room (Nat.le_of_ble_eq_true rfl)) dL_law_544 ⟨(show _ ≤ 603072 by omega), (show _ ≤ 7262314 by omega)⟩) hB hA hS (fun r1 u H locs hk hB hS => ?_)
  obtain ⟨hwp, hE⟩ := hk
  replace h0 := hE.m h0
  obtain ⟨δ, σ⟩ := u
  refine lv_aload_n hx hb dL_law_547 rfl (lv_at hl 2 rfl) ?_
  refine lv_aload_n hx hb dL_law_548 rfl (lv_at hl 0 rfl) ?_
  refine lv_iload_n hx hb dL_law_549 rfl (lv_at hl 3 rfl) ?_
  refine lv_iconst (v := 1) hx hb dL_law_550 (by decide) ?_
  refine lv_iadd hx hb dL_law_551 ?_
  refine va_sld hx hb hX hbl hbA hS h1 dL_law_552 ?_
  refine lv_aload_n hx hb dL_law_553 rfl (lv_at hl 0 rfl) ?_
  refine lv_iload_n hx hb dL_law_554 rfl (lv_at hl 3 rfl) ?_
  refine lv_iconst (v := 2) hx hb dL_law_555 (by decide) ?_
  refine lv_iadd hx hb dL_law_556 ?_
  refine va_sld hx hb hX hbl hbA hS h2 dL_law_557 ?_
  refine lv_aload_n hx hb dL_law_558 rfl (lv_at hl 0 rfl) ?_
  refine lv_iload_n hx hb dL_law_559 rfl (lv_at hl 3 rfl) ?_
  refine lv_iconst (v := 3) hx hb dL_law_560 (by decide) ?_
  refine lv_iadd hx hb dL_law_561 ?_
  refine va_sld hx hb hX hbl hbA hS h3 dL_law_562 ?_
  refine lv_aload_n hx hb dL_law_563 rfl (lv_at hl 0 rfl) ?_
  refine lv_iload_n hx hb dL_law_564 rfl (lv_at hl 3 rfl) ?_
  refine lv_iconst (v := 4) hx hb dL_law_565 (by decide) ?_
  refine lv_iadd hx hb dL_law_566 ?_
  refine va_sld hx hb hX hbl hbA hS h4 dL_law_567 ?_
  refine lv_aload_n hx hb dL_law_568 rfl (lv_at hl 0 rfl) ?_
  refine lv_iload_n hx hb dL_law_569 rfl (lv_at hl 3 rfl) ?_
  refine lv_iconst (v := 5) hx hb dL_law_570 (by decide) ?_
  refine lv_iadd hx hb dL_law_571 ?_
  refine va_sld hx hb hX hbl hbA hS h5 dL_law_572 ?_
  refine l_mi (avs := [.int (xs (i + 1).toNatClampNeg), .int (xs (i + 2).toNatClampNeg), .int (xs (i + 3).toNatClampNeg), .int (xs (i + 4).toNatClampNeg), .int (xs (i + 5).toNatClampNeg)]) ⟨hx, hb, hml, hown, hts⟩ hK.1 hB hA hS (mt_thing hwp) (cwV 5 hts (lw_V q1557 q1558 q1559 q79 q1560) rfl rfl rfl (by decide +kernel) ⟨(Nat.le_of_ble_eq_true rfl), (Nat.le_of_ble_eq_true rfl)⟩) rfl hl.1 rfl (Nat.le_of_ble_eq_true rfl) dL_law_573 ⟨(show _ ≤ 603072 by omega), (show _ ≤ 7262314 by omega)⟩ (fun r2 u2 H locs hk hB hS => ?_)
  obtain ⟨eq, hR⟩ := hk
  refine lv_icmp_eq (tgt := 1435) hx hb dL_law_576 (by decide) (fun _ => ?_) (fun c9 => absurd eq c9)
  exact W.widen (k := cells + 4659) (n := slots + 33787) (by omega) (by omega) (kk _ _ _ _ _ _ h0 hR hB hS hl)
set_option maxHeartbeats 4000000 in
set_option maxRecDepth 100000 in
theorem lc_thingOf {p : Program} {l : Launch} {e : Env} {s : State} {m : MethodId} {below : List Frame} {meth : Method} {c : Code} {b L : Nat} {xs : Nat → Int32} {Γ : GA} {α : Nat → Nat} {x : Nat} {RL : XSh → XSt → MSt → Nat → Prop} (X : CL p s m meth c b L xs Γ) (hst : l.stackTraces = false) (pl : Pl_thingOf RL) {i : Int32} (h1 : vp_in (i + 1) L) (h2 : vp_in (i + 2) L) (h3 : vp_in (i + 3) L) (h4 : vp_in (i + 4) L) (h5 : vp_in (i + 5) L) {cells slots : Nat} (hc : cells + 4659 ≤ 603072) (hs : slots + 33787 ≤ 7262314) (kk : LT p l e s m below meth c b Γ α x RL i (cells + 4659) (slots + 33787) 1435) : LT p l e s m below meth c b Γ α x RL i cells slots 581 := by
  intro δ σ σm H locs ls h0 hR hB hS hl
  obtain ⟨hx, hb, hml, hown, hts, hK, hZ, hX, hbl⟩ := id X
  have hbA : ¬ AL s b := Nat.not_le.mpr hbl
  have hA : ∀ q, s.heap.size ≤ q → AL s q := fun _ h => h
  refine lv_aload_n hx hb dL_law_581 rfl (lv_at hl 1 rfl) ?_
  refine lv_aload_n hx hb dL_law_582 rfl (lv_at hl 0 rfl) ?_
  refine lv_iload_n hx hb dL_law_583 rfl (lv_at hl 3 rfl) ?_
  refine lv_iconst (v := 1) hx hb dL_law_584 (by decide) ?_
  refine lv_iadd hx hb dL_law_585 ?_
  refine va_sld hx hb hX hbl hbA hS h1 dL_law_586 ?_
  refine lv_aload_n hx hb dL_law_587 rfl (lv_at hl 0 rfl) ?_
  refine lv_iload_n hx hb dL_law_588 rfl (lv_at hl 3 rfl) ?_
  refine lv_iconst (v := 2) hx hb dL_law_589 (by decide) ?_
  refine lv_iadd hx hb dL_law_590 ?_
  refine va_sld hx hb hX hbl hbA hS h2 dL_law_591 ?_
  have hwp := pl δ σ σm x hR (xs (i + 1).toNatClampNeg) (xs (i + 2).toNatClampNeg)
  refine l_goi (va_runV (As := [.int (xs (i + 1).toNatClampNeg), .int (xs (i + 2).toNatClampNeg)]) (rest := []) ⟨hx, hb, hml, hown, hts⟩ (xt_S_thingOf h0 hwp H.size) (cwV 2 hts (lw_V q810 q811 q812 q75 q813) rfl rfl rfl (by decide +kernel) ⟨(Nat.le_of_ble_eq_true rfl), (Nat.le_of_ble_eq_true rfl)⟩) (x_preV hK hB.2.1 hB.2.2.1 hB.1 0 x h0 rfl rfl) rfl rfl hl.1 rfl (lv_room (Nat.le_of_ble_eq_true rfl)) dL_law_592 ⟨(show _ ≤ 603072 by omega), (show _ ≤ 7262314 by omega)⟩) hB hA hS (fun r1 u H locs hk hB hS => ?_)
  obtain ⟨hwp, hE⟩ := hk
  obtain ⟨δ1, σ1⟩ := u
  have hE : δ = δ1 := Eq.symm hE
  subst hE
  refine lv_aload_n hx hb dL_law_595 rfl (lv_at hl 2 rfl) ?_
  refine lv_aload_n hx hb dL_law_596 rfl (lv_at hl 0 rfl) ?_
  refine lv_iload_n hx hb dL_law_597 rfl (lv_at hl 3 rfl) ?_
  refine lv_iconst (v := 1) hx hb dL_law_598 (by decide) ?_
  refine lv_iadd hx hb dL_law_599 ?_
  refine va_sld hx hb hX hbl hbA hS h1 dL_law_600 ?_
  refine lv_aload_n hx hb dL_law_601 rfl (lv_at hl 0 rfl) ?_
  refine lv_iload_n hx hb dL_law_602 rfl (lv_at hl 3 rfl) ?_
  refine lv_iconst (v := 2) hx hb dL_law_603 (by decide) ?_
  refine lv_iadd hx hb dL_law_604 ?_
  refine va_sld hx hb hX hbl hbA hS h2 dL_law_605 ?_
  refine l_mi (avs := [.int (xs (i + 1).toNatClampNeg), .int (xs (i + 2).toNatClampNeg)]) ⟨hx, hb, hml, hown, hts⟩ hK.1 hB hA hS (mt_thingOf hwp) (cwV 2 hts (lw_V q1565 q1566 q1567 q79 q1568) rfl rfl rfl (by decide +kernel) ⟨(Nat.le_of_ble_eq_true rfl), (Nat.le_of_ble_eq_true rfl)⟩) rfl hl.1 rfl (Nat.le_of_ble_eq_true rfl) dL_law_606 ⟨(show _ ≤ 603072 by omega), (show _ ≤ 7262314 by omega)⟩ (fun r2 u2 H locs hk hB hS => ?_)
  obtain ⟨eq, hR⟩ := hk
  refine lv_icmp_eq (tgt := 1435) hx hb dL_law_609 (by decide) (fun _ => ?_) (fun c9 => absurd eq c9)
  exact W.widen (k := cells + 4659) (n := slots + 33787) (by omega) (by omega) (kk _ _ _ _ _ _ h0 hR hB hS hl)
set_option maxHeartbeats 4000000 in
set_option maxRecDepth 100000 in
theorem lc_height {p : Program} {l : Launch} {e : Env} {s : State} {m : MethodId} {below : List Frame} {meth : Method} {c : Code} {b L : Nat} {xs : Nat → Int32} {Γ : GA} {α : Nat → Nat} {x : Nat} {RL : XSh → XSt → MSt → Nat → Prop} (X : CL p s m meth c b L xs Γ) (hst : l.stackTraces = false) (pl : Pl_height RL) {i : Int32} (h1 : vp_in (i + 1) L) (h2 : vp_in (i + 2) L) (h3 : vp_in (i + 3) L) (h4 : vp_in (i + 4) L) (h5 : vp_in (i + 5) L) {cells slots : Nat} (hc : cells + 4659 ≤ 603072) (hs : slots + 33787 ≤ 7262314) (kk : LT p l e s m below meth c b Γ α x RL i (cells + 4659) (slots + 33787) 1435) : LT p l e s m below meth c b Γ α x RL i cells slots 614 := by
  intro δ σ σm H locs ls h0 hR hB hS hl
  obtain ⟨hx, hb, hml, hown, hts, hK, hZ, hX, hbl⟩ := id X
  have hbA : ¬ AL s b := Nat.not_le.mpr hbl
  have hA : ∀ q, s.heap.size ≤ q → AL s q := fun _ h => h
  refine lv_aload_n hx hb dL_law_614 rfl (lv_at hl 1 rfl) ?_
  refine lv_aload_n hx hb dL_law_615 rfl (lv_at hl 0 rfl) ?_
  refine lv_iload_n hx hb dL_law_616 rfl (lv_at hl 3 rfl) ?_
  refine lv_iconst (v := 1) hx hb dL_law_617 (by decide) ?_
  refine lv_iadd hx hb dL_law_618 ?_
  refine va_sld hx hb hX hbl hbA hS h1 dL_law_619 ?_
  refine lv_aload_n hx hb dL_law_620 rfl (lv_at hl 0 rfl) ?_
  refine lv_iload_n hx hb dL_law_621 rfl (lv_at hl 3 rfl) ?_
  refine lv_iconst (v := 2) hx hb dL_law_622 (by decide) ?_
  refine lv_iadd hx hb dL_law_623 ?_
  refine va_sld hx hb hX hbl hbA hS h2 dL_law_624 ?_
  have hwp := pl δ σ σm x hR (xs (i + 1).toNatClampNeg) (xs (i + 2).toNatClampNeg)
  refine l_ygoi (vx_runVX (As := [.int (xs (i + 1).toNatClampNeg), .int (xs (i + 2).toNatClampNeg)]) (rest := []) ⟨hx, hb, hml, hown, hts⟩ (xt_S_height hst h0 hwp H.size) (vx_cwVW 2 hts (lw_VW q842 q843 q844 q75 q845) rfl rfl rfl (by decide +kernel) ⟨(Nat.le_of_ble_eq_true rfl), (Nat.le_of_ble_eq_true rfl)⟩) (y_preV hK hB.2.1 hB.2.2.1 hA hZ hB.1 hS 0 x h0 rfl rfl) rfl rfl hl.1 rfl (lv_room (Nat.le_of_ble_eq_true rfl)) dL_law_625 ⟨(show _ ≤ 603072 by omega), (show _ ≤ 7262314 by omega)⟩) hB hA hS (fun r1 u H locs hk hB hS => ?_)
  obtain ⟨hwp, hE⟩ := hk
  replace h0 := hE.m h0
  obtain ⟨δ, σ⟩ := u
  refine lv_aload_n hx hb dL_law_628 rfl (lv_at hl 2 rfl) ?_
  refine lv_aload_n hx hb dL_law_629 rfl (lv_at hl 0 rfl) ?_
  refine lv_iload_n hx hb dL_law_630 rfl (lv_at hl 3 rfl) ?_
  refine lv_iconst (v := 1) hx hb dL_law_631 (by decide) ?_
  refine lv_iadd hx hb dL_law_632 ?_
  refine va_sld hx hb hX hbl hbA hS h1 dL_law_633 ?_
  refine lv_aload_n hx hb dL_law_634 rfl (lv_at hl 0 rfl) ?_
  refine lv_iload_n hx hb dL_law_635 rfl (lv_at hl 3 rfl) ?_
  refine lv_iconst (v := 2) hx hb dL_law_636 (by decide) ?_
  refine lv_iadd hx hb dL_law_637 ?_
  refine va_sld hx hb hX hbl hbA hS h2 dL_law_638 ?_
  refine l_mi (avs := [.int (xs (i + 1).toNatClampNeg), .int (xs (i + 2).toNatClampNeg)]) ⟨hx, hb, hml, hown, hts⟩ hK.1 hB hA hS (mt_height hwp) (cwV 2 hts (lw_V q1569 q1570 q1571 q79 q1572) rfl rfl rfl (by decide +kernel) ⟨(Nat.le_of_ble_eq_true rfl), (Nat.le_of_ble_eq_true rfl)⟩) rfl hl.1 rfl (Nat.le_of_ble_eq_true rfl) dL_law_639 ⟨(show _ ≤ 603072 by omega), (show _ ≤ 7262314 by omega)⟩ (fun r2 u2 H locs hk hB hS => ?_)
  obtain ⟨eq, hR⟩ := hk
  refine lv_icmp_eq (tgt := 1435) hx hb dL_law_642 (by decide) (fun _ => ?_) (fun c9 => absurd eq c9)
  exact W.widen (k := cells + 4659) (n := slots + 33787) (by omega) (by omega) (kk _ _ _ _ _ _ h0 hR hB hS hl)
set_option maxHeartbeats 4000000 in
set_option maxRecDepth 100000 in
theorem lc_ask {p : Program} {l : Launch} {e : Env} {s : State} {m : MethodId} {below : List Frame} {meth : Method} {c : Code} {b L : Nat} {xs : Nat → Int32} {Γ : GA} {α : Nat → Nat} {x : Nat} {RL : XSh → XSt → MSt → Nat → Prop} (X : CL p s m meth c b L xs Γ) (hst : l.stackTraces = false) (pl : Pl_ask RL) {i : Int32} (h1 : vp_in (i + 1) L) (h2 : vp_in (i + 2) L) (h3 : vp_in (i + 3) L) (h4 : vp_in (i + 4) L) (h5 : vp_in (i + 5) L) {cells slots : Nat} (hc : cells + 4659 ≤ 603072) (hs : slots + 33787 ≤ 7262314) (kk : LT p l e s m below meth c b Γ α x RL i (cells + 4659) (slots + 33787) 1435) : LT p l e s m below meth c b Γ α x RL i cells slots 647 := by
  intro δ σ σm H locs ls h0 hR hB hS hl
  obtain ⟨hx, hb, hml, hown, hts, hK, hZ, hX, hbl⟩ := id X
  have hbA : ¬ AL s b := Nat.not_le.mpr hbl
  have hA : ∀ q, s.heap.size ≤ q → AL s q := fun _ h => h
  refine lv_aload_n hx hb dL_law_647 rfl (lv_at hl 1 rfl) ?_
  refine lv_aload_n hx hb dL_law_648 rfl (lv_at hl 0 rfl) ?_
  refine lv_iload_n hx hb dL_law_649 rfl (lv_at hl 3 rfl) ?_
  refine lv_iconst (v := 1) hx hb dL_law_650 (by decide) ?_
  refine lv_iadd hx hb dL_law_651 ?_
  refine va_sld hx hb hX hbl hbA hS h1 dL_law_652 ?_
  refine lv_aload_n hx hb dL_law_653 rfl (lv_at hl 0 rfl) ?_
  refine lv_iload_n hx hb dL_law_654 rfl (lv_at hl 3 rfl) ?_
  refine lv_iconst (v := 2) hx hb dL_law_655 (by decide) ?_
  refine lv_iadd hx hb dL_law_656 ?_
  refine va_sld hx hb hX hbl hbA hS h2 dL_law_657 ?_
  have hwp := pl δ σ σm x hR (xs (i + 1).toNatClampNeg) (xs (i + 2).toNatClampNeg)
  refine l_ygoi (vx_runVX (As := [.int (xs (i + 1).toNatClampNeg), .int (xs (i + 2).toNatClampNeg)]) (rest := []) ⟨hx, hb, hml, hown, hts⟩ (xt_S_ask hst h0 hwp H.size) (vx_cwVW 2 hts (lw_VW q846 q847 q848 q75 q849) rfl rfl rfl (by decide +kernel) ⟨(Nat.le_of_ble_eq_true rfl), (Nat.le_of_ble_eq_true rfl)⟩) (y_preV hK hB.2.1 hB.2.2.1 hA hZ hB.1 hS 0 x h0 rfl rfl) rfl rfl hl.1 rfl (lv_room (Nat.le_of_ble_eq_true rfl)) dL_law_658 ⟨(show _ ≤ 603072 by omega), (show _ ≤ 7262314 by omega)⟩) hB hA hS (fun r1 u H locs hk hB hS => ?_)
  obtain ⟨hwp, hE⟩ := hk
  replace h0 := hE.m h0
  obtain ⟨δ, σ⟩ := u
  refine lv_aload_n hx hb dL_law_661 rfl (lv_at hl 2 rfl) ?_
  refine lv_aload_n hx hb dL_law_662 rfl (lv_at hl 0 rfl) ?_
  refine lv_iload_n hx hb dL_law_663 rfl (lv_at hl 3 rfl) ?_
  refine lv_iconst (v := 1) hx hb dL_law_664 (by decide) ?_
  refine lv_iadd hx hb dL_law_665 ?_
  refine va_sld hx hb hX hbl hbA hS h1 dL_law_666 ?_
  refine lv_aload_n hx hb dL_law_667 rfl (lv_at hl 0 rfl) ?_
  refine lv_iload_n hx hb dL_law_668 rfl (lv_at hl 3 rfl) ?_
  refine lv_iconst (v := 2) hx hb dL_law_669 (by decide) ?_
  refine lv_iadd hx hb dL_law_670 ?_
  refine va_sld hx hb hX hbl hbA hS h2 dL_law_671 ?_
  refine l_mi (avs := [.int (xs (i + 1).toNatClampNeg), .int (xs (i + 2).toNatClampNeg)]) ⟨hx, hb, hml, hown, hts⟩ hK.1 hB hA hS (mt_ask hwp) (cwV 2 hts (lw_V q1573 q1574 q1575 q79 q1576) rfl rfl rfl (by decide +kernel) ⟨(Nat.le_of_ble_eq_true rfl), (Nat.le_of_ble_eq_true rfl)⟩) rfl hl.1 rfl (Nat.le_of_ble_eq_true rfl) dL_law_672 ⟨(show _ ≤ 603072 by omega), (show _ ≤ 7262314 by omega)⟩ (fun r2 u2 H locs hk hB hS => ?_)
  obtain ⟨eq, hR⟩ := hk
  refine lv_icmp_eq (tgt := 1435) hx hb dL_law_675 (by decide) (fun _ => ?_) (fun c9 => absurd eq c9)
  exact W.widen (k := cells + 4659) (n := slots + 33787) (by omega) (by omega) (kk _ _ _ _ _ _ h0 hR hB hS hl)
set_option maxHeartbeats 4000000 in
set_option maxRecDepth 100000 in
theorem lc_shut {p : Program} {l : Launch} {e : Env} {s : State} {m : MethodId} {below : List Frame} {meth : Method} {c : Code} {b L : Nat} {xs : Nat → Int32} {Γ : GA} {α : Nat → Nat} {x : Nat} {RL : XSh → XSt → MSt → Nat → Prop} (X : CL p s m meth c b L xs Γ) (hst : l.stackTraces = false) (pl : Pl_shut RL) {i : Int32} (h1 : vp_in (i + 1) L) (h2 : vp_in (i + 2) L) (h3 : vp_in (i + 3) L) (h4 : vp_in (i + 4) L) (h5 : vp_in (i + 5) L) {cells slots : Nat} (hc : cells + 4659 ≤ 603072) (hs : slots + 33787 ≤ 7262314) (kk : LT p l e s m below meth c b Γ α x RL i (cells + 4659) (slots + 33787) 1435) : LT p l e s m below meth c b Γ α x RL i cells slots 680 := by
  intro δ σ σm H locs ls h0 hR hB hS hl
  obtain ⟨hx, hb, hml, hown, hts, hK, hZ, hX, hbl⟩ := id X
  have hbA : ¬ AL s b := Nat.not_le.mpr hbl
  have hA : ∀ q, s.heap.size ≤ q → AL s q := fun _ h => h
  refine lv_aload_n hx hb dL_law_680 rfl (lv_at hl 1 rfl) ?_
  refine lv_aload_n hx hb dL_law_681 rfl (lv_at hl 0 rfl) ?_
  refine lv_iload_n hx hb dL_law_682 rfl (lv_at hl 3 rfl) ?_
  refine lv_iconst (v := 1) hx hb dL_law_683 (by decide) ?_
  refine lv_iadd hx hb dL_law_684 ?_
  refine va_sld hx hb hX hbl hbA hS h1 dL_law_685 ?_
  refine lv_aload_n hx hb dL_law_686 rfl (lv_at hl 0 rfl) ?_
  refine lv_iload_n hx hb dL_law_687 rfl (lv_at hl 3 rfl) ?_
  refine lv_iconst (v := 2) hx hb dL_law_688 (by decide) ?_
  refine lv_iadd hx hb dL_law_689 ?_
  refine va_sld hx hb hX hbl hbA hS h2 dL_law_690 ?_
  refine lv_aload_n hx hb dL_law_691 rfl (lv_at hl 0 rfl) ?_
  refine lv_iload_n hx hb dL_law_692 rfl (lv_at hl 3 rfl) ?_
  refine lv_iconst (v := 3) hx hb dL_law_693 (by decide) ?_
  refine lv_iadd hx hb dL_law_694 ?_
  refine va_sld hx hb hX hbl hbA hS h3 dL_law_695 ?_
  refine lv_if_eq (tgt := 703) hx hb dL_law_696 (by decide) (fun c1 => ?_) (fun c1 => ?_)
  ·
    refine lv_iconst (v := 0) hx hb dL_law_703 (by decide) ?_
    have hwp := pl δ σ σm x hR (xs (i + 1).toNatClampNeg) (xs (i + 2).toNatClampNeg) (0) (by decide)
    refine l_ygoi (vx_runVX (As := [.int (xs (i + 1).toNatClampNeg), .int (xs (i + 2).toNatClampNeg), .int (0)]) (rest := []) ⟨hx, hb, hml, hown, hts⟩ (xt_S_shut hst h0 hwp H.size) (vx_cwVW 3 hts (lw_VW q850 q851 q852 q75 q853) rfl rfl rfl (by decide +kernel) ⟨(Nat.le_of_ble_eq_true rfl), (Nat.le_of_ble_eq_true rfl)⟩) (y_preV hK hB.2.1 hB.2.2.1 hA hZ hB.1 hS 0 x h0 rfl rfl) rfl rfl hl.1 rfl (lv_room (Nat.le_of_ble_eq_true rfl)) dL_law_704 ⟨(show _ ≤ 603072 by omega), (show _ ≤ 7262314 by omega)⟩) hB hA hS (fun r1 u H locs hk hB hS => ?_)
    obtain ⟨hwp, hE⟩ := hk
    replace h0 := hE.m h0
    obtain ⟨δ, σ⟩ := u
    refine lv_aload_n hx hb dL_law_707 rfl (lv_at hl 2 rfl) ?_
    refine lv_aload_n hx hb dL_law_708 rfl (lv_at hl 0 rfl) ?_
    refine lv_iload_n hx hb dL_law_709 rfl (lv_at hl 3 rfl) ?_
    refine lv_iconst (v := 1) hx hb dL_law_710 (by decide) ?_
    refine lv_iadd hx hb dL_law_711 ?_
    refine va_sld hx hb hX hbl hbA hS h1 dL_law_712 ?_
    refine lv_aload_n hx hb dL_law_713 rfl (lv_at hl 0 rfl) ?_
    refine lv_iload_n hx hb dL_law_714 rfl (lv_at hl 3 rfl) ?_
    refine lv_iconst (v := 2) hx hb dL_law_715 (by decide) ?_
    refine lv_iadd hx hb dL_law_716 ?_
    refine va_sld hx hb hX hbl hbA hS h2 dL_law_717 ?_
    refine lv_aload_n hx hb dL_law_718 rfl (lv_at hl 0 rfl) ?_
    refine lv_iload_n hx hb dL_law_719 rfl (lv_at hl 3 rfl) ?_
    refine lv_iconst (v := 3) hx hb dL_law_720 (by decide) ?_
    refine lv_iadd hx hb dL_law_721 ?_
    refine va_sld hx hb hX hbl hbA hS h3 dL_law_722 ?_
    refine lv_if_eq (tgt := 730) hx hb dL_law_723 (by decide) (fun c2 => ?_) (fun c2 => absurd c1 c2)
    refine lv_iconst (v := 0) hx hb dL_law_730 (by decide) ?_
    refine l_mi (avs := [.int (xs (i + 1).toNatClampNeg), .int (xs (i + 2).toNatClampNeg), .int (0)]) ⟨hx, hb, hml, hown, hts⟩ hK.1 hB hA hS (mt_shut hwp) (cwV 3 hts (lw_V q1577 q1578 q1579 q79 q1580) rfl rfl rfl (by decide +kernel) ⟨(Nat.le_of_ble_eq_true rfl), (Nat.le_of_ble_eq_true rfl)⟩) rfl hl.1 rfl (Nat.le_of_ble_eq_true rfl) dL_law_731 ⟨(show _ ≤ 603072 by omega), (show _ ≤ 7262314 by omega)⟩ (fun r2 u2 H locs hk hB hS => ?_)
    obtain ⟨eq, hR⟩ := hk
    refine lv_icmp_eq (tgt := 1435) hx hb dL_law_734 (by decide) (fun _ => ?_) (fun c9 => absurd eq c9)
    exact W.widen (k := cells + 4659) (n := slots + 33787) (by omega) (by omega) (kk _ _ _ _ _ _ h0 hR hB hS hl)
  ·
    refine lv_iconst (v := 1) hx hb dL_law_699 (by decide) ?_
    refine lv_goto (tgt := 704) hx hb dL_law_700 (by decide) ?_
    have hwp := pl δ σ σm x hR (xs (i + 1).toNatClampNeg) (xs (i + 2).toNatClampNeg) (1) (by decide)
    refine l_ygoi (vx_runVX (As := [.int (xs (i + 1).toNatClampNeg), .int (xs (i + 2).toNatClampNeg), .int (1)]) (rest := []) ⟨hx, hb, hml, hown, hts⟩ (xt_S_shut hst h0 hwp H.size) (vx_cwVW 3 hts (lw_VW q850 q851 q852 q75 q853) rfl rfl rfl (by decide +kernel) ⟨(Nat.le_of_ble_eq_true rfl), (Nat.le_of_ble_eq_true rfl)⟩) (y_preV hK hB.2.1 hB.2.2.1 hA hZ hB.1 hS 0 x h0 rfl rfl) rfl rfl hl.1 rfl (lv_room (Nat.le_of_ble_eq_true rfl)) dL_law_704 ⟨(show _ ≤ 603072 by omega), (show _ ≤ 7262314 by omega)⟩) hB hA hS (fun r1 u H locs hk hB hS => ?_)
    obtain ⟨hwp, hE⟩ := hk
    replace h0 := hE.m h0
    obtain ⟨δ, σ⟩ := u
    refine lv_aload_n hx hb dL_law_707 rfl (lv_at hl 2 rfl) ?_
    refine lv_aload_n hx hb dL_law_708 rfl (lv_at hl 0 rfl) ?_
    refine lv_iload_n hx hb dL_law_709 rfl (lv_at hl 3 rfl) ?_
    refine lv_iconst (v := 1) hx hb dL_law_710 (by decide) ?_
    refine lv_iadd hx hb dL_law_711 ?_
    refine va_sld hx hb hX hbl hbA hS h1 dL_law_712 ?_
    refine lv_aload_n hx hb dL_law_713 rfl (lv_at hl 0 rfl) ?_
    refine lv_iload_n hx hb dL_law_714 rfl (lv_at hl 3 rfl) ?_
    refine lv_iconst (v := 2) hx hb dL_law_715 (by decide) ?_
    refine lv_iadd hx hb dL_law_716 ?_
    refine va_sld hx hb hX hbl hbA hS h2 dL_law_717 ?_
    refine lv_aload_n hx hb dL_law_718 rfl (lv_at hl 0 rfl) ?_
    refine lv_iload_n hx hb dL_law_719 rfl (lv_at hl 3 rfl) ?_
    refine lv_iconst (v := 3) hx hb dL_law_720 (by decide) ?_
    refine lv_iadd hx hb dL_law_721 ?_
    refine va_sld hx hb hX hbl hbA hS h3 dL_law_722 ?_
    refine lv_if_eq (tgt := 730) hx hb dL_law_723 (by decide) (fun c3 => absurd c3 c1) (fun c3 => ?_)
    refine lv_iconst (v := 1) hx hb dL_law_726 (by decide) ?_
    refine lv_goto (tgt := 731) hx hb dL_law_727 (by decide) ?_
    refine l_mi (avs := [.int (xs (i + 1).toNatClampNeg), .int (xs (i + 2).toNatClampNeg), .int (1)]) ⟨hx, hb, hml, hown, hts⟩ hK.1 hB hA hS (mt_shut hwp) (cwV 3 hts (lw_V q1577 q1578 q1579 q79 q1580) rfl rfl rfl (by decide +kernel) ⟨(Nat.le_of_ble_eq_true rfl), (Nat.le_of_ble_eq_true rfl)⟩) rfl hl.1 rfl (Nat.le_of_ble_eq_true rfl) dL_law_731 ⟨(show _ ≤ 603072 by omega), (show _ ≤ 7262314 by omega)⟩ (fun r2 u2 H locs hk hB hS => ?_)
    obtain ⟨eq, hR⟩ := hk
    refine lv_icmp_eq (tgt := 1435) hx hb dL_law_734 (by decide) (fun _ => ?_) (fun c9 => absurd eq c9)
    exact W.widen (k := cells + 4659) (n := slots + 33787) (by omega) (by omega) (kk _ _ _ _ _ _ h0 hR hB hS hl)
set_option maxHeartbeats 4000000 in
set_option maxRecDepth 100000 in
theorem lc_draw {p : Program} {l : Launch} {e : Env} {s : State} {m : MethodId} {below : List Frame} {meth : Method} {c : Code} {b L : Nat} {xs : Nat → Int32} {Γ : GA} {α : Nat → Nat} {x : Nat} {RL : XSh → XSt → MSt → Nat → Prop} (X : CL p s m meth c b L xs Γ) (hst : l.stackTraces = false) (pl : Pl_draw RL) {i : Int32} (h1 : vp_in (i + 1) L) (h2 : vp_in (i + 2) L) (h3 : vp_in (i + 3) L) (h4 : vp_in (i + 4) L) (h5 : vp_in (i + 5) L) {cells slots : Nat} (hc : cells + 4659 ≤ 603072) (hs : slots + 33787 ≤ 7262314) (kk : LT p l e s m below meth c b Γ α x RL i (cells + 4659) (slots + 33787) 1435) : LT p l e s m below meth c b Γ α x RL i cells slots 739 := by
  intro δ σ σm H locs ls h0 hR hB hS hl
  obtain ⟨hx, hb, hml, hown, hts, hK, hZ, hX, hbl⟩ := id X
  have hbA : ¬ AL s b := Nat.not_le.mpr hbl
  have hA : ∀ q, s.heap.size ≤ q → AL s q := fun _ h => h
  refine lv_aload_n hx hb dL_law_739 rfl (lv_at hl 1 rfl) ?_
  refine lv_aload_n hx hb dL_law_740 rfl (lv_at hl 0 rfl) ?_
  refine lv_iload_n hx hb dL_law_741 rfl (lv_at hl 3 rfl) ?_
  refine lv_iconst (v := 1) hx hb dL_law_742 (by decide) ?_
  refine lv_iadd hx hb dL_law_743 ?_
  refine va_sld hx hb hX hbl hbA hS h1 dL_law_744 ?_
  refine lv_aload_n hx hb dL_law_745 rfl (lv_at hl 0 rfl) ?_
  refine lv_iload_n hx hb dL_law_746 rfl (lv_at hl 3 rfl) ?_
  refine lv_iconst (v := 2) hx hb dL_law_747 (by decide) ?_
  refine lv_iadd hx hb dL_law_748 ?_
  refine va_sld hx hb hX hbl hbA hS h2 dL_law_749 ?_
  refine lv_if_eq (tgt := 757) hx hb dL_law_750 (by decide) (fun c1 => ?_) (fun c1 => ?_)
  ·
    refine lv_iconst (v := 0) hx hb dL_law_757 (by decide) ?_
    have hwp := pl δ σ σm x hR (xs (i + 1).toNatClampNeg) (0) (by decide)
    refine l_ygoi (vx_runVX (As := [.int (xs (i + 1).toNatClampNeg), .int (0)]) (rest := []) ⟨hx, hb, hml, hown, hts⟩ (xt_S_draw hst h0 hwp H.size) (vx_cwVW 2 hts (lw_VW q859 q860 q861 q75 q862) rfl rfl rfl (by decide +kernel) ⟨(Nat.le_of_ble_eq_true rfl), (Nat.le_of_ble_eq_true rfl)⟩) (y_preV hK hB.2.1 hB.2.2.1 hA hZ hB.1 hS 0 x h0 rfl rfl) rfl rfl hl.1 rfl (lv_room (Nat.le_of_ble_eq_true rfl)) dL_law_758 ⟨(show _ ≤ 603072 by omega), (show _ ≤ 7262314 by omega)⟩) hB hA hS (fun r1 u H locs hk hB hS => ?_)
    obtain ⟨hwp, hE⟩ := hk
    replace h0 := hE.m h0
    obtain ⟨δ, σ⟩ := u
    refine lv_aload_n hx hb dL_law_761 rfl (lv_at hl 2 rfl) ?_
    refine lv_aload_n hx hb dL_law_762 rfl (lv_at hl 0 rfl) ?_
    refine lv_iload_n hx hb dL_law_763 rfl (lv_at hl 3 rfl) ?_
    refine lv_iconst (v := 1) hx hb dL_law_764 (by decide) ?_
    refine lv_iadd hx hb dL_law_765 ?_
    refine va_sld hx hb hX hbl hbA hS h1 dL_law_766 ?_
    refine lv_aload_n hx hb dL_law_767 rfl (lv_at hl 0 rfl) ?_
    refine lv_iload_n hx hb dL_law_768 rfl (lv_at hl 3 rfl) ?_
    refine lv_iconst (v := 2) hx hb dL_law_769 (by decide) ?_
    refine lv_iadd hx hb dL_law_770 ?_
    refine va_sld hx hb hX hbl hbA hS h2 dL_law_771 ?_
    refine lv_if_eq (tgt := 779) hx hb dL_law_772 (by decide) (fun c2 => ?_) (fun c2 => absurd c1 c2)
    refine lv_iconst (v := 0) hx hb dL_law_779 (by decide) ?_
    refine l_mi (avs := [.int (xs (i + 1).toNatClampNeg), .int (0)]) ⟨hx, hb, hml, hown, hts⟩ hK.1 hB hA hS (mt_draw hwp) (cwV 2 hts (lw_V q1585 q1586 q1587 q79 q1588) rfl rfl rfl (by decide +kernel) ⟨(Nat.le_of_ble_eq_true rfl), (Nat.le_of_ble_eq_true rfl)⟩) rfl hl.1 rfl (Nat.le_of_ble_eq_true rfl) dL_law_780 ⟨(show _ ≤ 603072 by omega), (show _ ≤ 7262314 by omega)⟩ (fun r2 u2 H locs hk hB hS => ?_)
    obtain ⟨eq, hR⟩ := hk
    refine lv_icmp_eq (tgt := 1435) hx hb dL_law_783 (by decide) (fun _ => ?_) (fun c9 => absurd eq c9)
    exact W.widen (k := cells + 4659) (n := slots + 33787) (by omega) (by omega) (kk _ _ _ _ _ _ h0 hR hB hS hl)
  ·
    refine lv_iconst (v := 1) hx hb dL_law_753 (by decide) ?_
    refine lv_goto (tgt := 758) hx hb dL_law_754 (by decide) ?_
    have hwp := pl δ σ σm x hR (xs (i + 1).toNatClampNeg) (1) (by decide)
    refine l_ygoi (vx_runVX (As := [.int (xs (i + 1).toNatClampNeg), .int (1)]) (rest := []) ⟨hx, hb, hml, hown, hts⟩ (xt_S_draw hst h0 hwp H.size) (vx_cwVW 2 hts (lw_VW q859 q860 q861 q75 q862) rfl rfl rfl (by decide +kernel) ⟨(Nat.le_of_ble_eq_true rfl), (Nat.le_of_ble_eq_true rfl)⟩) (y_preV hK hB.2.1 hB.2.2.1 hA hZ hB.1 hS 0 x h0 rfl rfl) rfl rfl hl.1 rfl (lv_room (Nat.le_of_ble_eq_true rfl)) dL_law_758 ⟨(show _ ≤ 603072 by omega), (show _ ≤ 7262314 by omega)⟩) hB hA hS (fun r1 u H locs hk hB hS => ?_)
    obtain ⟨hwp, hE⟩ := hk
    replace h0 := hE.m h0
    obtain ⟨δ, σ⟩ := u
    refine lv_aload_n hx hb dL_law_761 rfl (lv_at hl 2 rfl) ?_
    refine lv_aload_n hx hb dL_law_762 rfl (lv_at hl 0 rfl) ?_
    refine lv_iload_n hx hb dL_law_763 rfl (lv_at hl 3 rfl) ?_
    refine lv_iconst (v := 1) hx hb dL_law_764 (by decide) ?_
    refine lv_iadd hx hb dL_law_765 ?_
    refine va_sld hx hb hX hbl hbA hS h1 dL_law_766 ?_
    refine lv_aload_n hx hb dL_law_767 rfl (lv_at hl 0 rfl) ?_
    refine lv_iload_n hx hb dL_law_768 rfl (lv_at hl 3 rfl) ?_
    refine lv_iconst (v := 2) hx hb dL_law_769 (by decide) ?_
    refine lv_iadd hx hb dL_law_770 ?_
    refine va_sld hx hb hX hbl hbA hS h2 dL_law_771 ?_
    refine lv_if_eq (tgt := 779) hx hb dL_law_772 (by decide) (fun c3 => absurd c3 c1) (fun c3 => ?_)
    refine lv_iconst (v := 1) hx hb dL_law_775 (by decide) ?_
    refine lv_goto (tgt := 780) hx hb dL_law_776 (by decide) ?_
    refine l_mi (avs := [.int (xs (i + 1).toNatClampNeg), .int (1)]) ⟨hx, hb, hml, hown, hts⟩ hK.1 hB hA hS (mt_draw hwp) (cwV 2 hts (lw_V q1585 q1586 q1587 q79 q1588) rfl rfl rfl (by decide +kernel) ⟨(Nat.le_of_ble_eq_true rfl), (Nat.le_of_ble_eq_true rfl)⟩) rfl hl.1 rfl (Nat.le_of_ble_eq_true rfl) dL_law_780 ⟨(show _ ≤ 603072 by omega), (show _ ≤ 7262314 by omega)⟩ (fun r2 u2 H locs hk hB hS => ?_)
    obtain ⟨eq, hR⟩ := hk
    refine lv_icmp_eq (tgt := 1435) hx hb dL_law_783 (by decide) (fun _ => ?_) (fun c9 => absurd eq c9)
    exact W.widen (k := cells + 4659) (n := slots + 33787) (by omega) (by omega) (kk _ _ _ _ _ _ h0 hR hB hS hl)
set_option maxHeartbeats 4000000 in
set_option maxRecDepth 100000 in
theorem lc_ground {p : Program} {l : Launch} {e : Env} {s : State} {m : MethodId} {below : List Frame} {meth : Method} {c : Code} {b L : Nat} {xs : Nat → Int32} {Γ : GA} {α : Nat → Nat} {x : Nat} {RL : XSh → XSt → MSt → Nat → Prop} (X : CL p s m meth c b L xs Γ) (hst : l.stackTraces = false) (pl : Pl_ground RL) {i : Int32} (h1 : vp_in (i + 1) L) (h2 : vp_in (i + 2) L) (h3 : vp_in (i + 3) L) (h4 : vp_in (i + 4) L) (h5 : vp_in (i + 5) L) {cells slots : Nat} (hc : cells + 4659 ≤ 603072) (hs : slots + 33787 ≤ 7262314) (kk : LT p l e s m below meth c b Γ α x RL i (cells + 4659) (slots + 33787) 1435) : LT p l e s m below meth c b Γ α x RL i cells slots 788 := by
  intro δ σ σm H locs ls h0 hR hB hS hl
  obtain ⟨hx, hb, hml, hown, hts, hK, hZ, hX, hbl⟩ := id X
  have hbA : ¬ AL s b := Nat.not_le.mpr hbl
  have hA : ∀ q, s.heap.size ≤ q → AL s q := fun _ h => h
  refine lv_aload_n hx hb dL_law_788 rfl (lv_at hl 1 rfl) ?_
  refine lv_aload_n hx hb dL_law_789 rfl (lv_at hl 0 rfl) ?_
  refine lv_iload_n hx hb dL_law_790 rfl (lv_at hl 3 rfl) ?_
  refine lv_iconst (v := 1) hx hb dL_law_791 (by decide) ?_
  refine lv_iadd hx hb dL_law_792 ?_
  refine va_sld hx hb hX hbl hbA hS h1 dL_law_793 ?_
  have hwp := pl δ σ σm x hR (xs (i + 1).toNatClampNeg)
  refine l_ygoi (vx_runVX (As := [.int (xs (i + 1).toNatClampNeg)]) (rest := []) ⟨hx, hb, hml, hown, hts⟩ (xt_S_ground hst h0 hwp H.size) (vx_cwVW 1 hts (lw_VW q867 q868 q869 q75 q870) rfl rfl rfl (by decide +kernel) ⟨(Nat.le_of_ble_eq_true rfl), (Nat.le_of_ble_eq_true rfl)⟩) (y_preV hK hB.2.1 hB.2.2.1 hA hZ hB.1 hS 0 x h0 rfl rfl) rfl rfl hl.1 rfl (lv_room (Nat.le_of_ble_eq_true rfl)) dL_law_794 ⟨(show _ ≤ 603072 by omega), (show _ ≤ 7262314 by omega)⟩) hB hA hS (fun r1 u H locs hk hB hS => ?_)
  obtain ⟨hwp, hE⟩ := hk
  replace h0 := hE.m h0
  obtain ⟨δ, σ⟩ := u
  refine lv_aload_n hx hb dL_law_797 rfl (lv_at hl 2 rfl) ?_
  refine lv_aload_n hx hb dL_law_798 rfl (lv_at hl 0 rfl) ?_
  refine lv_iload_n hx hb dL_law_799 rfl (lv_at hl 3 rfl) ?_
  refine lv_iconst (v := 1) hx hb dL_law_800 (by decide) ?_
  refine lv_iadd hx hb dL_law_801 ?_
  refine va_sld hx hb hX hbl hbA hS h1 dL_law_802 ?_
  refine l_mi (avs := [.int (xs (i + 1).toNatClampNeg)]) ⟨hx, hb, hml, hown, hts⟩ hK.1 hB hA hS (mt_ground hwp) (cwV 1 hts (lw_V q1593 q1594 q1595 q79 q1596) rfl rfl rfl (by decide +kernel) ⟨(Nat.le_of_ble_eq_true rfl), (Nat.le_of_ble_eq_true rfl)⟩) rfl hl.1 rfl (Nat.le_of_ble_eq_true rfl) dL_law_803 ⟨(show _ ≤ 603072 by omega), (show _ ≤ 7262314 by omega)⟩ (fun r2 u2 H locs hk hB hS => ?_)
  obtain ⟨eq, hR⟩ := hk
  refine lv_icmp_eq (tgt := 1435) hx hb dL_law_806 (by decide) (fun _ => ?_) (fun c9 => absurd eq c9)
  exact W.widen (k := cells + 4659) (n := slots + 33787) (by omega) (by omega) (kk _ _ _ _ _ _ h0 hR hB hS hl)
set_option maxHeartbeats 4000000 in
set_option maxRecDepth 100000 in
theorem lc_fault {p : Program} {l : Launch} {e : Env} {s : State} {m : MethodId} {below : List Frame} {meth : Method} {c : Code} {b L : Nat} {xs : Nat → Int32} {Γ : GA} {α : Nat → Nat} {x : Nat} {RL : XSh → XSt → MSt → Nat → Prop} (X : CL p s m meth c b L xs Γ) (hst : l.stackTraces = false) (pl : Pl_fault RL) {i : Int32} (h1 : vp_in (i + 1) L) (h2 : vp_in (i + 2) L) (h3 : vp_in (i + 3) L) (h4 : vp_in (i + 4) L) (h5 : vp_in (i + 5) L) {cells slots : Nat} (hc : cells + 4659 ≤ 603072) (hs : slots + 33787 ≤ 7262314) (kk : LT p l e s m below meth c b Γ α x RL i (cells + 4659) (slots + 33787) 1435) : LT p l e s m below meth c b Γ α x RL i cells slots 811 := by
  intro δ σ σm H locs ls h0 hR hB hS hl
  obtain ⟨hx, hb, hml, hown, hts, hK, hZ, hX, hbl⟩ := id X
  have hbA : ¬ AL s b := Nat.not_le.mpr hbl
  have hA : ∀ q, s.heap.size ≤ q → AL s q := fun _ h => h
  refine lv_aload_n hx hb dL_law_811 rfl (lv_at hl 1 rfl) ?_
  have hwp := pl δ σ σm x hR
  refine l_goi (va_runV (As := []) (rest := []) ⟨hx, hb, hml, hown, hts⟩ (xt_S_fault h0 hwp H.size) (cwV 0 hts (lw_V q1040 q1041 q1042 q75 q1043) rfl rfl rfl (by decide +kernel) ⟨(Nat.le_of_ble_eq_true rfl), (Nat.le_of_ble_eq_true rfl)⟩) (x_preV hK hB.2.1 hB.2.2.1 hB.1 0 x h0 rfl rfl) rfl rfl hl.1 rfl (lv_room (Nat.le_of_ble_eq_true rfl)) dL_law_812 ⟨(show _ ≤ 603072 by omega), (show _ ≤ 7262314 by omega)⟩) hB hA hS (fun r1 u H locs hk hB hS => ?_)
  obtain ⟨hwp, hE⟩ := hk
  obtain ⟨δ1, σ1⟩ := u
  cases hE
  refine lv_aload_n hx hb dL_law_815 rfl (lv_at hl 2 rfl) ?_
  refine l_mi (avs := []) ⟨hx, hb, hml, hown, hts⟩ hK.1 hB hA hS (mt_fault hwp) (cwV 0 hts (lw_V q1641 q1642 q1643 q79 q1644) rfl rfl rfl (by decide +kernel) ⟨(Nat.le_of_ble_eq_true rfl), (Nat.le_of_ble_eq_true rfl)⟩) rfl hl.1 rfl (Nat.le_of_ble_eq_true rfl) dL_law_816 ⟨(show _ ≤ 603072 by omega), (show _ ≤ 7262314 by omega)⟩ (fun r2 u2 H locs hk hB hS => ?_)
  obtain ⟨⟨eq, hR⟩, hu⟩ := hk
  replace hu := hu.symm
  subst hu
  refine lv_icmp_eq (tgt := 1435) hx hb dL_law_819 (by decide) (fun _ => ?_) (fun c9 => absurd eq c9)
  exact W.widen (k := cells + 4659) (n := slots + 33787) (by omega) (by omega) (kk _ _ _ _ _ _ h0 hR hB hS hl)
set_option maxHeartbeats 4000000 in
set_option maxRecDepth 100000 in
theorem lc_sees {p : Program} {l : Launch} {e : Env} {s : State} {m : MethodId} {below : List Frame} {meth : Method} {c : Code} {b L : Nat} {xs : Nat → Int32} {Γ : GA} {α : Nat → Nat} {x : Nat} {RL : XSh → XSt → MSt → Nat → Prop} (X : CL p s m meth c b L xs Γ) (hst : l.stackTraces = false) (pl : Pl_sees RL) {i : Int32} (h1 : vp_in (i + 1) L) (h2 : vp_in (i + 2) L) (h3 : vp_in (i + 3) L) (h4 : vp_in (i + 4) L) (h5 : vp_in (i + 5) L) {cells slots : Nat} (hc : cells + 4659 ≤ 603072) (hs : slots + 33787 ≤ 7262314) (kk : LT p l e s m below meth c b Γ α x RL i (cells + 4659) (slots + 33787) 1435) : LT p l e s m below meth c b Γ α x RL i cells slots 824 := by
  intro δ σ σm H locs ls h0 hR hB hS hl
  obtain ⟨hx, hb, hml, hown, hts, hK, hZ, hX, hbl⟩ := id X
  have hbA : ¬ AL s b := Nat.not_le.mpr hbl
  have hA : ∀ q, s.heap.size ≤ q → AL s q := fun _ h => h
  refine lv_aload_n hx hb dL_law_824 rfl (lv_at hl 1 rfl) ?_
  refine lv_aload_n hx hb dL_law_825 rfl (lv_at hl 0 rfl) ?_
  refine lv_iload_n hx hb dL_law_826 rfl (lv_at hl 3 rfl) ?_
  refine lv_iconst (v := 1) hx hb dL_law_827 (by decide) ?_
  refine lv_iadd hx hb dL_law_828 ?_
  refine va_sld hx hb hX hbl hbA hS h1 dL_law_829 ?_
  refine lv_aload_n hx hb dL_law_830 rfl (lv_at hl 0 rfl) ?_
  refine lv_iload_n hx hb dL_law_831 rfl (lv_at hl 3 rfl) ?_
  refine lv_iconst (v := 2) hx hb dL_law_832 (by decide) ?_
  refine lv_iadd hx hb dL_law_833 ?_
  refine va_sld hx hb hX hbl hbA hS h2 dL_law_834 ?_
  refine lv_aload_n hx hb dL_law_835 rfl (lv_at hl 0 rfl) ?_
  refine lv_iload_n hx hb dL_law_836 rfl (lv_at hl 3 rfl) ?_
  refine lv_iconst (v := 3) hx hb dL_law_837 (by decide) ?_
  refine lv_iadd hx hb dL_law_838 ?_
  refine va_sld hx hb hX hbl hbA hS h3 dL_law_839 ?_
  have hwp := pl δ σ σm x hR (xs (i + 1).toNatClampNeg) (xs (i + 2).toNatClampNeg) (xs (i + 3).toNatClampNeg)
  refine l_ygoi (vx_runVX (As := [.int (xs (i + 1).toNatClampNeg), .int (xs (i + 2).toNatClampNeg), .int (xs (i + 3).toNatClampNeg)]) (rest := []) ⟨hx, hb, hml, hown, hts⟩ (xt_S_sees hst h0 hwp H.size) (vx_cwVW 3 hts (lw_VW q1044 q1045 q1046 q75 q1047) rfl rfl rfl (by decide +kernel) ⟨(Nat.le_of_ble_eq_true rfl), (Nat.le_of_ble_eq_true rfl)⟩) (y_preV hK hB.2.1 hB.2.2.1 hA hZ hB.1 hS 0 x h0 rfl rfl) rfl rfl hl.1 rfl (lv_room (Nat.le_of_ble_eq_true rfl)) dL_law_840 ⟨(show _ ≤ 603072 by omega), (show _ ≤ 7262314 by omega)⟩) hB hA hS (fun r1 u H locs hk hB hS => ?_)
  obtain ⟨hwp, hE⟩ := hk
  replace h0 := hE.m h0
  obtain ⟨δ, σ⟩ := u
  refine lv_aload_n hx hb dL_law_843 rfl (lv_at hl 2 rfl) ?_
  refine lv_aload_n hx hb dL_law_844 rfl (lv_at hl 0 rfl) ?_
  refine lv_iload_n hx hb dL_law_845 rfl (lv_at hl 3 rfl) ?_
  refine lv_iconst (v := 1) hx hb dL_law_846 (by decide) ?_
  refine lv_iadd hx hb dL_law_847 ?_
  refine va_sld hx hb hX hbl hbA hS h1 dL_law_848 ?_
  refine lv_aload_n hx hb dL_law_849 rfl (lv_at hl 0 rfl) ?_
  refine lv_iload_n hx hb dL_law_850 rfl (lv_at hl 3 rfl) ?_
  refine lv_iconst (v := 2) hx hb dL_law_851 (by decide) ?_
  refine lv_iadd hx hb dL_law_852 ?_
  refine va_sld hx hb hX hbl hbA hS h2 dL_law_853 ?_
  refine lv_aload_n hx hb dL_law_854 rfl (lv_at hl 0 rfl) ?_
  refine lv_iload_n hx hb dL_law_855 rfl (lv_at hl 3 rfl) ?_
  refine lv_iconst (v := 3) hx hb dL_law_856 (by decide) ?_
  refine lv_iadd hx hb dL_law_857 ?_
  refine va_sld hx hb hX hbl hbA hS h3 dL_law_858 ?_
  refine l_mi (avs := [.int (xs (i + 1).toNatClampNeg), .int (xs (i + 2).toNatClampNeg), .int (xs (i + 3).toNatClampNeg)]) ⟨hx, hb, hml, hown, hts⟩ hK.1 hB hA hS (mt_sees hwp) (cwV 3 hts (lw_V q1645 q1646 q1647 q79 q1648) rfl rfl rfl (by decide +kernel) ⟨(Nat.le_of_ble_eq_true rfl), (Nat.le_of_ble_eq_true rfl)⟩) rfl hl.1 rfl (Nat.le_of_ble_eq_true rfl) dL_law_859 ⟨(show _ ≤ 603072 by omega), (show _ ≤ 7262314 by omega)⟩ (fun r2 u2 H locs hk hB hS => ?_)
  obtain ⟨eq, hR⟩ := hk
  refine lv_icmp_eq (tgt := 1435) hx hb dL_law_862 (by decide) (fun _ => ?_) (fun c9 => absurd eq c9)
  exact W.widen (k := cells + 4659) (n := slots + 33787) (by omega) (by omega) (kk _ _ _ _ _ _ h0 hR hB hS hl)
set_option maxHeartbeats 4000000 in
set_option maxRecDepth 100000 in
theorem lc_bars {p : Program} {l : Launch} {e : Env} {s : State} {m : MethodId} {below : List Frame} {meth : Method} {c : Code} {b L : Nat} {xs : Nat → Int32} {Γ : GA} {α : Nat → Nat} {x : Nat} {RL : XSh → XSt → MSt → Nat → Prop} (X : CL p s m meth c b L xs Γ) (hst : l.stackTraces = false) (pl : Pl_bars RL) {i : Int32} (h1 : vp_in (i + 1) L) (h2 : vp_in (i + 2) L) (h3 : vp_in (i + 3) L) (h4 : vp_in (i + 4) L) (h5 : vp_in (i + 5) L) {cells slots : Nat} (hc : cells + 4659 ≤ 603072) (hs : slots + 33787 ≤ 7262314) (kk : LT p l e s m below meth c b Γ α x RL i (cells + 4659) (slots + 33787) 1435) : LT p l e s m below meth c b Γ α x RL i cells slots 867 := by
  intro δ σ σm H locs ls h0 hR hB hS hl
  obtain ⟨hx, hb, hml, hown, hts, hK, hZ, hX, hbl⟩ := id X
  have hbA : ¬ AL s b := Nat.not_le.mpr hbl
  have hA : ∀ q, s.heap.size ≤ q → AL s q := fun _ h => h
  refine lv_aload_n hx hb dL_law_867 rfl (lv_at hl 1 rfl) ?_
  refine lv_aload_n hx hb dL_law_868 rfl (lv_at hl 0 rfl) ?_
  refine lv_iload_n hx hb dL_law_869 rfl (lv_at hl 3 rfl) ?_
  refine lv_iconst (v := 1) hx hb dL_law_870 (by decide) ?_
  refine lv_iadd hx hb dL_law_871 ?_
  refine va_sld hx hb hX hbl hbA hS h1 dL_law_872 ?_
  refine lv_aload_n hx hb dL_law_873 rfl (lv_at hl 0 rfl) ?_
  refine lv_iload_n hx hb dL_law_874 rfl (lv_at hl 3 rfl) ?_
  refine lv_iconst (v := 2) hx hb dL_law_875 (by decide) ?_
  refine lv_iadd hx hb dL_law_876 ?_
  refine va_sld hx hb hX hbl hbA hS h2 dL_law_877 ?_
  have hwp := pl δ σ σm x hR (xs (i + 1).toNatClampNeg) (xs (i + 2).toNatClampNeg)
  refine l_ygoi (vx_runVX (As := [.int (xs (i + 1).toNatClampNeg), .int (xs (i + 2).toNatClampNeg)]) (rest := []) ⟨hx, hb, hml, hown, hts⟩ (xt_S_bars hst h0 hwp H.size) (vx_cwVW 2 hts (lw_VW q1050 q1051 q1052 q75 q1053) rfl rfl rfl (by decide +kernel) ⟨(Nat.le_of_ble_eq_true rfl), (Nat.le_of_ble_eq_true rfl)⟩) (y_preV hK hB.2.1 hB.2.2.1 hA hZ hB.1 hS 0 x h0 rfl rfl) rfl rfl hl.1 rfl (lv_room (Nat.le_of_ble_eq_true rfl)) dL_law_878 ⟨(show _ ≤ 603072 by omega), (show _ ≤ 7262314 by omega)⟩) hB hA hS (fun r1 u H locs hk hB hS => ?_)
  obtain ⟨hwp, hE⟩ := hk
  replace h0 := hE.m h0
  obtain ⟨δ, σ⟩ := u
  refine lv_aload_n hx hb dL_law_881 rfl (lv_at hl 2 rfl) ?_
  refine lv_aload_n hx hb dL_law_882 rfl (lv_at hl 0 rfl) ?_
  refine lv_iload_n hx hb dL_law_883 rfl (lv_at hl 3 rfl) ?_
  refine lv_iconst (v := 1) hx hb dL_law_884 (by decide) ?_
  refine lv_iadd hx hb dL_law_885 ?_
  refine va_sld hx hb hX hbl hbA hS h1 dL_law_886 ?_
  refine lv_aload_n hx hb dL_law_887 rfl (lv_at hl 0 rfl) ?_
  refine lv_iload_n hx hb dL_law_888 rfl (lv_at hl 3 rfl) ?_
  refine lv_iconst (v := 2) hx hb dL_law_889 (by decide) ?_
  refine lv_iadd hx hb dL_law_890 ?_
  refine va_sld hx hb hX hbl hbA hS h2 dL_law_891 ?_
  refine l_mi (avs := [.int (xs (i + 1).toNatClampNeg), .int (xs (i + 2).toNatClampNeg)]) ⟨hx, hb, hml, hown, hts⟩ hK.1 hB hA hS (mt_bars hwp) (cwV 2 hts (lw_V q1649 q1650 q1651 q79 q1652) rfl rfl rfl (by decide +kernel) ⟨(Nat.le_of_ble_eq_true rfl), (Nat.le_of_ble_eq_true rfl)⟩) rfl hl.1 rfl (Nat.le_of_ble_eq_true rfl) dL_law_892 ⟨(show _ ≤ 603072 by omega), (show _ ≤ 7262314 by omega)⟩ (fun r2 u2 H locs hk hB hS => ?_)
  obtain ⟨eq, hR⟩ := hk
  refine lv_icmp_eq (tgt := 1435) hx hb dL_law_895 (by decide) (fun _ => ?_) (fun c9 => absurd eq c9)
  exact W.widen (k := cells + 4659) (n := slots + 33787) (by omega) (by omega) (kk _ _ _ _ _ _ h0 hR hB hS hl)
set_option maxHeartbeats 4000000 in
set_option maxRecDepth 100000 in
theorem lc_seers {p : Program} {l : Launch} {e : Env} {s : State} {m : MethodId} {below : List Frame} {meth : Method} {c : Code} {b L : Nat} {xs : Nat → Int32} {Γ : GA} {α : Nat → Nat} {x : Nat} {RL : XSh → XSt → MSt → Nat → Prop} (X : CL p s m meth c b L xs Γ) (hst : l.stackTraces = false) (pl : Pl_seers RL) {i : Int32} (h1 : vp_in (i + 1) L) (h2 : vp_in (i + 2) L) (h3 : vp_in (i + 3) L) (h4 : vp_in (i + 4) L) (h5 : vp_in (i + 5) L) {cells slots : Nat} (hc : cells + 4659 ≤ 603072) (hs : slots + 33787 ≤ 7262314) (kk : LT p l e s m below meth c b Γ α x RL i (cells + 4659) (slots + 33787) 1435) : LT p l e s m below meth c b Γ α x RL i cells slots 900 := by
  intro δ σ σm H locs ls h0 hR hB hS hl
  obtain ⟨hx, hb, hml, hown, hts, hK, hZ, hX, hbl⟩ := id X
  have hbA : ¬ AL s b := Nat.not_le.mpr hbl
  have hA : ∀ q, s.heap.size ≤ q → AL s q := fun _ h => h
  refine lv_aload_n hx hb dL_law_900 rfl (lv_at hl 1 rfl) ?_
  refine lv_aload_n hx hb dL_law_901 rfl (lv_at hl 0 rfl) ?_
  refine lv_iload_n hx hb dL_law_902 rfl (lv_at hl 3 rfl) ?_
  refine lv_iconst (v := 1) hx hb dL_law_903 (by decide) ?_
  refine lv_iadd hx hb dL_law_904 ?_
  refine va_sld hx hb hX hbl hbA hS h1 dL_law_905 ?_
  have hwp := pl δ σ σm x hR (xs (i + 1).toNatClampNeg)
  refine l_ygoi (vx_runVX (As := [.int (xs (i + 1).toNatClampNeg)]) (rest := []) ⟨hx, hb, hml, hown, hts⟩ (xt_S_seers hst h0 hwp H.size) (vx_cwVW 1 hts (lw_VW q1055 q1056 q1057 q75 q1058) rfl rfl rfl (by decide +kernel) ⟨(Nat.le_of_ble_eq_true rfl), (Nat.le_of_ble_eq_true rfl)⟩) (y_preV hK hB.2.1 hB.2.2.1 hA hZ hB.1 hS 0 x h0 rfl rfl) rfl rfl hl.1 rfl (lv_room (Nat.le_of_ble_eq_true rfl)) dL_law_906 ⟨(show _ ≤ 603072 by omega), (show _ ≤ 7262314 by omega)⟩) hB hA hS (fun r1 u H locs hk hB hS => ?_)
  obtain ⟨hwp, hE⟩ := hk
  replace h0 := hE.m h0
  obtain ⟨δ, σ⟩ := u
  refine lv_aload_n hx hb dL_law_909 rfl (lv_at hl 2 rfl) ?_
  refine lv_aload_n hx hb dL_law_910 rfl (lv_at hl 0 rfl) ?_
  refine lv_iload_n hx hb dL_law_911 rfl (lv_at hl 3 rfl) ?_
  refine lv_iconst (v := 1) hx hb dL_law_912 (by decide) ?_
  refine lv_iadd hx hb dL_law_913 ?_
  refine va_sld hx hb hX hbl hbA hS h1 dL_law_914 ?_
  refine l_mi (avs := [.int (xs (i + 1).toNatClampNeg)]) ⟨hx, hb, hml, hown, hts⟩ hK.1 hB hA hS (mt_seers hwp) (cwV 1 hts (lw_V q1657 q1658 q1659 q79 q1660) rfl rfl rfl (by decide +kernel) ⟨(Nat.le_of_ble_eq_true rfl), (Nat.le_of_ble_eq_true rfl)⟩) rfl hl.1 rfl (Nat.le_of_ble_eq_true rfl) dL_law_915 ⟨(show _ ≤ 603072 by omega), (show _ ≤ 7262314 by omega)⟩ (fun r2 u2 H locs hk hB hS => ?_)
  obtain ⟨eq, hR⟩ := hk
  refine lv_icmp_eq (tgt := 1435) hx hb dL_law_918 (by decide) (fun _ => ?_) (fun c9 => absurd eq c9)
  exact W.widen (k := cells + 4659) (n := slots + 33787) (by omega) (by omega) (kk _ _ _ _ _ _ h0 hR hB hS hl)
set_option maxHeartbeats 4000000 in
set_option maxRecDepth 100000 in
theorem lc_right {p : Program} {l : Launch} {e : Env} {s : State} {m : MethodId} {below : List Frame} {meth : Method} {c : Code} {b L : Nat} {xs : Nat → Int32} {Γ : GA} {α : Nat → Nat} {x : Nat} {RL : XSh → XSt → MSt → Nat → Prop} (X : CL p s m meth c b L xs Γ) (hst : l.stackTraces = false) (pl : Pl_right RL) {i : Int32} (h1 : vp_in (i + 1) L) (h2 : vp_in (i + 2) L) (h3 : vp_in (i + 3) L) (h4 : vp_in (i + 4) L) (h5 : vp_in (i + 5) L) {cells slots : Nat} (hc : cells + 4659 ≤ 603072) (hs : slots + 33787 ≤ 7262314) (kk : LT p l e s m below meth c b Γ α x RL i (cells + 4659) (slots + 33787) 1435) : LT p l e s m below meth c b Γ α x RL i cells slots 923 := by
  intro δ σ σm H locs ls h0 hR hB hS hl
  obtain ⟨hx, hb, hml, hown, hts, hK, hZ, hX, hbl⟩ := id X
  have hbA : ¬ AL s b := Nat.not_le.mpr hbl
  have hA : ∀ q, s.heap.size ≤ q → AL s q := fun _ h => h
  refine lv_aload_n hx hb dL_law_923 rfl (lv_at hl 1 rfl) ?_
  have hwp := pl δ σ σm x hR
  refine l_goi (va_runV (As := []) (rest := []) ⟨hx, hb, hml, hown, hts⟩ (xt_S_right h0 hwp H.size) (cwV 0 hts (lw_V q1060 q1061 q1062 q75 q1063) rfl rfl rfl (by decide +kernel) ⟨(Nat.le_of_ble_eq_true rfl), (Nat.le_of_ble_eq_true rfl)⟩) (x_preV hK hB.2.1 hB.2.2.1 hB.1 0 x h0 rfl rfl) rfl rfl hl.1 rfl (lv_room (Nat.le_of_ble_eq_true rfl)) dL_law_924 ⟨(show _ ≤ 603072 by omega), (show _ ≤ 7262314 by omega)⟩) hB hA hS (fun r1 u H locs hk hB hS => ?_)
  obtain ⟨hwp, hE⟩ := hk
  obtain ⟨δ1, σ1⟩ := u
  cases hE
  refine lv_aload_n hx hb dL_law_927 rfl (lv_at hl 2 rfl) ?_
  refine l_mi (avs := []) ⟨hx, hb, hml, hown, hts⟩ hK.1 hB hA hS (mt_right hwp) (cwV 0 hts (lw_V q1661 q1662 q1663 q79 q1664) rfl rfl rfl (by decide +kernel) ⟨(Nat.le_of_ble_eq_true rfl), (Nat.le_of_ble_eq_true rfl)⟩) rfl hl.1 rfl (Nat.le_of_ble_eq_true rfl) dL_law_928 ⟨(show _ ≤ 603072 by omega), (show _ ≤ 7262314 by omega)⟩ (fun r2 u2 H locs hk hB hS => ?_)
  obtain ⟨⟨eq, hR⟩, hu⟩ := hk
  replace hu := hu.symm
  subst hu
  refine lv_icmp_eq (tgt := 1435) hx hb dL_law_931 (by decide) (fun _ => ?_) (fun c9 => absurd eq c9)
  exact W.widen (k := cells + 4659) (n := slots + 33787) (by omega) (by omega) (kk _ _ _ _ _ _ h0 hR hB hS hl)
set_option maxHeartbeats 4000000 in
set_option maxRecDepth 100000 in
theorem lc_first {p : Program} {l : Launch} {e : Env} {s : State} {m : MethodId} {below : List Frame} {meth : Method} {c : Code} {b L : Nat} {xs : Nat → Int32} {Γ : GA} {α : Nat → Nat} {x : Nat} {RL : XSh → XSt → MSt → Nat → Prop} (X : CL p s m meth c b L xs Γ) (hst : l.stackTraces = false) (pl : Pl_first RL) {i : Int32} (h1 : vp_in (i + 1) L) (h2 : vp_in (i + 2) L) (h3 : vp_in (i + 3) L) (h4 : vp_in (i + 4) L) (h5 : vp_in (i + 5) L) {cells slots : Nat} (hc : cells + 4659 ≤ 603072) (hs : slots + 33787 ≤ 7262314) (kk : LT p l e s m below meth c b Γ α x RL i (cells + 4659) (slots + 33787) 1435) : LT p l e s m below meth c b Γ α x RL i cells slots 936 := by
  intro δ σ σm H locs ls h0 hR hB hS hl
  obtain ⟨hx, hb, hml, hown, hts, hK, hZ, hX, hbl⟩ := id X
  have hbA : ¬ AL s b := Nat.not_le.mpr hbl
  have hA : ∀ q, s.heap.size ≤ q → AL s q := fun _ h => h
  refine lv_aload_n hx hb dL_law_936 rfl (lv_at hl 1 rfl) ?_
  have hwp := pl δ σ σm x hR
  refine l_goi (va_runV (As := []) (rest := []) ⟨hx, hb, hml, hown, hts⟩ (xt_S_first h0 hwp H.size) (cwV 0 hts (lw_V q1069 q1070 q1071 q75 q1072) rfl rfl rfl (by decide +kernel) ⟨(Nat.le_of_ble_eq_true rfl), (Nat.le_of_ble_eq_true rfl)⟩) (x_preV hK hB.2.1 hB.2.2.1 hB.1 0 x h0 rfl rfl) rfl rfl hl.1 rfl (lv_room (Nat.le_of_ble_eq_true rfl)) dL_law_937 ⟨(show _ ≤ 603072 by omega), (show _ ≤ 7262314 by omega)⟩) hB hA hS (fun r1 u H locs hk hB hS => ?_)
  obtain ⟨hwp, hE⟩ := hk
  obtain ⟨δ1, σ1⟩ := u
  cases hE
  refine lv_aload_n hx hb dL_law_940 rfl (lv_at hl 2 rfl) ?_
  refine l_mi (avs := []) ⟨hx, hb, hml, hown, hts⟩ hK.1 hB hA hS (mt_first hwp) (cwV 0 hts (lw_V q1669 q1670 q1671 q79 q1672) rfl rfl rfl (by decide +kernel) ⟨(Nat.le_of_ble_eq_true rfl), (Nat.le_of_ble_eq_true rfl)⟩) rfl hl.1 rfl (Nat.le_of_ble_eq_true rfl) dL_law_941 ⟨(show _ ≤ 603072 by omega), (show _ ≤ 7262314 by omega)⟩ (fun r2 u2 H locs hk hB hS => ?_)
  obtain ⟨⟨eq, hR⟩, hu⟩ := hk
  replace hu := hu.symm
  subst hu
  refine lv_icmp_eq (tgt := 1435) hx hb dL_law_944 (by decide) (fun _ => ?_) (fun c9 => absurd eq c9)
  exact W.widen (k := cells + 4659) (n := slots + 33787) (by omega) (by omega) (kk _ _ _ _ _ _ h0 hR hB hS hl)
set_option maxHeartbeats 4000000 in
set_option maxRecDepth 100000 in
theorem lc_cost {p : Program} {l : Launch} {e : Env} {s : State} {m : MethodId} {below : List Frame} {meth : Method} {c : Code} {b L : Nat} {xs : Nat → Int32} {Γ : GA} {α : Nat → Nat} {x : Nat} {RL : XSh → XSt → MSt → Nat → Prop} (X : CL p s m meth c b L xs Γ) (hst : l.stackTraces = false) (pl : Pl_cost RL) {i : Int32} (h1 : vp_in (i + 1) L) (h2 : vp_in (i + 2) L) (h3 : vp_in (i + 3) L) (h4 : vp_in (i + 4) L) (h5 : vp_in (i + 5) L) {cells slots : Nat} (hc : cells + 4659 ≤ 603072) (hs : slots + 33787 ≤ 7262314) (kk : LT p l e s m below meth c b Γ α x RL i (cells + 4659) (slots + 33787) 1435) : LT p l e s m below meth c b Γ α x RL i cells slots 949 := by
  intro δ σ σm H locs ls h0 hR hB hS hl
  obtain ⟨hx, hb, hml, hown, hts, hK, hZ, hX, hbl⟩ := id X
  have hbA : ¬ AL s b := Nat.not_le.mpr hbl
  have hA : ∀ q, s.heap.size ≤ q → AL s q := fun _ h => h
  refine lv_aload_n hx hb dL_law_949 rfl (lv_at hl 1 rfl) ?_
  refine lv_aload_n hx hb dL_law_950 rfl (lv_at hl 0 rfl) ?_
  refine lv_iload_n hx hb dL_law_951 rfl (lv_at hl 3 rfl) ?_
  refine lv_iconst (v := 1) hx hb dL_law_952 (by decide) ?_
  refine lv_iadd hx hb dL_law_953 ?_
  refine va_sld hx hb hX hbl hbA hS h1 dL_law_954 ?_
  refine lv_aload_n hx hb dL_law_955 rfl (lv_at hl 0 rfl) ?_
  refine lv_iload_n hx hb dL_law_956 rfl (lv_at hl 3 rfl) ?_
  refine lv_iconst (v := 2) hx hb dL_law_957 (by decide) ?_
  refine lv_iadd hx hb dL_law_958 ?_
  refine va_sld hx hb hX hbl hbA hS h2 dL_law_959 ?_
  have hwp := pl δ σ σm x hR (xs (i + 1).toNatClampNeg) (xs (i + 2).toNatClampNeg)
  refine l_ygoi (vx_runVX (As := [.int (xs (i + 1).toNatClampNeg), .int (xs (i + 2).toNatClampNeg)]) (rest := []) ⟨hx, hb, hml, hown, hts⟩ (xt_S_cost hst h0 hwp H.size) (vx_cwVW 2 hts (lw_VW q1081 q1082 q1083 q75 q1084) rfl rfl rfl (by decide +kernel) ⟨(Nat.le_of_ble_eq_true rfl), (Nat.le_of_ble_eq_true rfl)⟩) (y_preV hK hB.2.1 hB.2.2.1 hA hZ hB.1 hS 0 x h0 rfl rfl) rfl rfl hl.1 rfl (lv_room (Nat.le_of_ble_eq_true rfl)) dL_law_960 ⟨(show _ ≤ 603072 by omega), (show _ ≤ 7262314 by omega)⟩) hB hA hS (fun r1 u H locs hk hB hS => ?_)
  obtain ⟨hwp, hE⟩ := hk
  replace h0 := hE.m h0
  obtain ⟨δ, σ⟩ := u
  refine lv_aload_n hx hb dL_law_963 rfl (lv_at hl 2 rfl) ?_
  refine lv_aload_n hx hb dL_law_964 rfl (lv_at hl 0 rfl) ?_
  refine lv_iload_n hx hb dL_law_965 rfl (lv_at hl 3 rfl) ?_
  refine lv_iconst (v := 1) hx hb dL_law_966 (by decide) ?_
  refine lv_iadd hx hb dL_law_967 ?_
  refine va_sld hx hb hX hbl hbA hS h1 dL_law_968 ?_
  refine lv_aload_n hx hb dL_law_969 rfl (lv_at hl 0 rfl) ?_
  refine lv_iload_n hx hb dL_law_970 rfl (lv_at hl 3 rfl) ?_
  refine lv_iconst (v := 2) hx hb dL_law_971 (by decide) ?_
  refine lv_iadd hx hb dL_law_972 ?_
  refine va_sld hx hb hX hbl hbA hS h2 dL_law_973 ?_
  refine l_mi (avs := [.int (xs (i + 1).toNatClampNeg), .int (xs (i + 2).toNatClampNeg)]) ⟨hx, hb, hml, hown, hts⟩ hK.1 hB hA hS (mt_cost hwp) (cwV 2 hts (lw_V q1673 q1674 q1675 q79 q1676) rfl rfl rfl (by decide +kernel) ⟨(Nat.le_of_ble_eq_true rfl), (Nat.le_of_ble_eq_true rfl)⟩) rfl hl.1 rfl (Nat.le_of_ble_eq_true rfl) dL_law_974 ⟨(show _ ≤ 603072 by omega), (show _ ≤ 7262314 by omega)⟩ (fun r2 u2 H locs hk hB hS => ?_)
  obtain ⟨eq, hR⟩ := hk
  refine lv_icmp_eq (tgt := 1435) hx hb dL_law_977 (by decide) (fun _ => ?_) (fun c9 => absurd eq c9)
  exact W.widen (k := cells + 4659) (n := slots + 33787) (by omega) (by omega) (kk _ _ _ _ _ _ h0 hR hB hS hl)
set_option maxHeartbeats 4000000 in
set_option maxRecDepth 100000 in
theorem lc_cheapest {p : Program} {l : Launch} {e : Env} {s : State} {m : MethodId} {below : List Frame} {meth : Method} {c : Code} {b L : Nat} {xs : Nat → Int32} {Γ : GA} {α : Nat → Nat} {x : Nat} {RL : XSh → XSt → MSt → Nat → Prop} (X : CL p s m meth c b L xs Γ) (hst : l.stackTraces = false) (pl : Pl_cheapest RL) {i : Int32} (h1 : vp_in (i + 1) L) (h2 : vp_in (i + 2) L) (h3 : vp_in (i + 3) L) (h4 : vp_in (i + 4) L) (h5 : vp_in (i + 5) L) {cells slots : Nat} (hc : cells + 4659 ≤ 603072) (hs : slots + 33787 ≤ 7262314) (kk : LT p l e s m below meth c b Γ α x RL i (cells + 4659) (slots + 33787) 1435) : LT p l e s m below meth c b Γ α x RL i cells slots 982 := by
  intro δ σ σm H locs ls h0 hR hB hS hl
  obtain ⟨hx, hb, hml, hown, hts, hK, hZ, hX, hbl⟩ := id X
  have hbA : ¬ AL s b := Nat.not_le.mpr hbl
  have hA : ∀ q, s.heap.size ≤ q → AL s q := fun _ h => h
  refine lv_aload_n hx hb dL_law_982 rfl (lv_at hl 1 rfl) ?_
  refine lv_aload_n hx hb dL_law_983 rfl (lv_at hl 0 rfl) ?_
  refine lv_iload_n hx hb dL_law_984 rfl (lv_at hl 3 rfl) ?_
  refine lv_iconst (v := 1) hx hb dL_law_985 (by decide) ?_
  refine lv_iadd hx hb dL_law_986 ?_
  refine va_sld hx hb hX hbl hbA hS h1 dL_law_987 ?_
  have hwp := pl δ σ σm x hR (xs (i + 1).toNatClampNeg)
  refine l_ygoi (vx_runVX (As := [.int (xs (i + 1).toNatClampNeg)]) (rest := []) ⟨hx, hb, hml, hown, hts⟩ (xt_S_cheapest hst h0 hwp H.size) (vx_cwVW 1 hts (lw_VW q1089 q1090 q1091 q75 q1092) rfl rfl rfl (by decide +kernel) ⟨(Nat.le_of_ble_eq_true rfl), (Nat.le_of_ble_eq_true rfl)⟩) (y_preV hK hB.2.1 hB.2.2.1 hA hZ hB.1 hS 0 x h0 rfl rfl) rfl rfl hl.1 rfl (lv_room (Nat.le_of_ble_eq_true rfl)) dL_law_988 ⟨(show _ ≤ 603072 by omega), (show _ ≤ 7262314 by omega)⟩) hB hA hS (fun r1 u H locs hk hB hS => ?_)
  obtain ⟨hwp, hE⟩ := hk
  replace h0 := hE.m h0
  obtain ⟨δ, σ⟩ := u
  refine lv_aload_n hx hb dL_law_991 rfl (lv_at hl 2 rfl) ?_
  refine lv_aload_n hx hb dL_law_992 rfl (lv_at hl 0 rfl) ?_
  refine lv_iload_n hx hb dL_law_993 rfl (lv_at hl 3 rfl) ?_
  refine lv_iconst (v := 1) hx hb dL_law_994 (by decide) ?_
  refine lv_iadd hx hb dL_law_995 ?_
  refine va_sld hx hb hX hbl hbA hS h1 dL_law_996 ?_
  refine l_mi (avs := [.int (xs (i + 1).toNatClampNeg)]) ⟨hx, hb, hml, hown, hts⟩ hK.1 hB hA hS (mt_cheapest hwp) (cwV 1 hts (lw_V q1689 q1690 q1691 q79 q1692) rfl rfl rfl (by decide +kernel) ⟨(Nat.le_of_ble_eq_true rfl), (Nat.le_of_ble_eq_true rfl)⟩) rfl hl.1 rfl (Nat.le_of_ble_eq_true rfl) dL_law_997 ⟨(show _ ≤ 603072 by omega), (show _ ≤ 7262314 by omega)⟩ (fun r2 u2 H locs hk hB hS => ?_)
  obtain ⟨eq, hR⟩ := hk
  refine lv_icmp_eq (tgt := 1435) hx hb dL_law_1000 (by decide) (fun _ => ?_) (fun c9 => absurd eq c9)
  exact W.widen (k := cells + 4659) (n := slots + 33787) (by omega) (by omega) (kk _ _ _ _ _ _ h0 hR hB hS hl)
set_option maxHeartbeats 4000000 in
set_option maxRecDepth 100000 in
theorem lc_keeps {p : Program} {l : Launch} {e : Env} {s : State} {m : MethodId} {below : List Frame} {meth : Method} {c : Code} {b L : Nat} {xs : Nat → Int32} {Γ : GA} {α : Nat → Nat} {x : Nat} {RL : XSh → XSt → MSt → Nat → Prop} (X : CL p s m meth c b L xs Γ) (hst : l.stackTraces = false) (pl : Pl_keeps RL) {i : Int32} (h1 : vp_in (i + 1) L) (h2 : vp_in (i + 2) L) (h3 : vp_in (i + 3) L) (h4 : vp_in (i + 4) L) (h5 : vp_in (i + 5) L) {cells slots : Nat} (hc : cells + 4659 ≤ 603072) (hs : slots + 33787 ≤ 7262314) (kk : LT p l e s m below meth c b Γ α x RL i (cells + 4659) (slots + 33787) 1435) : LT p l e s m below meth c b Γ α x RL i cells slots 1005 := by
  intro δ σ σm H locs ls h0 hR hB hS hl
  obtain ⟨hx, hb, hml, hown, hts, hK, hZ, hX, hbl⟩ := id X
  have hbA : ¬ AL s b := Nat.not_le.mpr hbl
  have hA : ∀ q, s.heap.size ≤ q → AL s q := fun _ h => h
  refine lv_aload_n hx hb dL_law_1005 rfl (lv_at hl 1 rfl) ?_
  refine lv_aload_n hx hb dL_law_1006 rfl (lv_at hl 0 rfl) ?_
  refine lv_iload_n hx hb dL_law_1007 rfl (lv_at hl 3 rfl) ?_
  refine lv_iconst (v := 1) hx hb dL_law_1008 (by decide) ?_
  refine lv_iadd hx hb dL_law_1009 ?_
  refine va_sld hx hb hX hbl hbA hS h1 dL_law_1010 ?_
  have hwp := pl δ σ σm x hR (xs (i + 1).toNatClampNeg)
  refine l_ygoi (vx_runVX (As := [.int (xs (i + 1).toNatClampNeg)]) (rest := []) ⟨hx, hb, hml, hown, hts⟩ (xt_S_keeps hst h0 hwp H.size) (vx_cwVW 1 hts (lw_VW q1112 q1113 q1114 q75 q1115) rfl rfl rfl (by decide +kernel) ⟨(Nat.le_of_ble_eq_true rfl), (Nat.le_of_ble_eq_true rfl)⟩) (y_preV hK hB.2.1 hB.2.2.1 hA hZ hB.1 hS 0 x h0 rfl rfl) rfl rfl hl.1 rfl (lv_room (Nat.le_of_ble_eq_true rfl)) dL_law_1011 ⟨(show _ ≤ 603072 by omega), (show _ ≤ 7262314 by omega)⟩) hB hA hS (fun r1 u H locs hk hB hS => ?_)
  obtain ⟨hwp, hE⟩ := hk
  replace h0 := hE.m h0
  obtain ⟨δ, σ⟩ := u
  refine lv_aload_n hx hb dL_law_1014 rfl (lv_at hl 2 rfl) ?_
  refine lv_aload_n hx hb dL_law_1015 rfl (lv_at hl 0 rfl) ?_
  refine lv_iload_n hx hb dL_law_1016 rfl (lv_at hl 3 rfl) ?_
  refine lv_iconst (v := 1) hx hb dL_law_1017 (by decide) ?_
  refine lv_iadd hx hb dL_law_1018 ?_
  refine va_sld hx hb hX hbl hbA hS h1 dL_law_1019 ?_
  refine l_mi (avs := [.int (xs (i + 1).toNatClampNeg)]) ⟨hx, hb, hml, hown, hts⟩ hK.1 hB hA hS (mt_keeps hwp) (cwV 1 hts (lw_V q1681 q1682 q1683 q79 q1684) rfl rfl rfl (by decide +kernel) ⟨(Nat.le_of_ble_eq_true rfl), (Nat.le_of_ble_eq_true rfl)⟩) rfl hl.1 rfl (Nat.le_of_ble_eq_true rfl) dL_law_1020 ⟨(show _ ≤ 603072 by omega), (show _ ≤ 7262314 by omega)⟩ (fun r2 u2 H locs hk hB hS => ?_)
  obtain ⟨eq, hR⟩ := hk
  refine lv_icmp_eq (tgt := 1435) hx hb dL_law_1023 (by decide) (fun _ => ?_) (fun c9 => absurd eq c9)
  exact W.widen (k := cells + 4659) (n := slots + 33787) (by omega) (by omega) (kk _ _ _ _ _ _ h0 hR hB hS hl)
set_option maxHeartbeats 4000000 in
set_option maxRecDepth 100000 in
theorem lc_curtains {p : Program} {l : Launch} {e : Env} {s : State} {m : MethodId} {below : List Frame} {meth : Method} {c : Code} {b L : Nat} {xs : Nat → Int32} {Γ : GA} {α : Nat → Nat} {x : Nat} {RL : XSh → XSt → MSt → Nat → Prop} (X : CL p s m meth c b L xs Γ) (hst : l.stackTraces = false) (pl : Pl_curtains RL) {i : Int32} (h1 : vp_in (i + 1) L) (h2 : vp_in (i + 2) L) (h3 : vp_in (i + 3) L) (h4 : vp_in (i + 4) L) (h5 : vp_in (i + 5) L) {cells slots : Nat} (hc : cells + 4659 ≤ 603072) (hs : slots + 33787 ≤ 7262314) (kk : LT p l e s m below meth c b Γ α x RL i (cells + 4659) (slots + 33787) 1435) : LT p l e s m below meth c b Γ α x RL i cells slots 1028 := by
  intro δ σ σm H locs ls h0 hR hB hS hl
  obtain ⟨hx, hb, hml, hown, hts, hK, hZ, hX, hbl⟩ := id X
  have hbA : ¬ AL s b := Nat.not_le.mpr hbl
  have hA : ∀ q, s.heap.size ≤ q → AL s q := fun _ h => h
  refine lv_aload_n hx hb dL_law_1028 rfl (lv_at hl 1 rfl) ?_
  refine lv_aload_n hx hb dL_law_1029 rfl (lv_at hl 0 rfl) ?_
  refine lv_iload_n hx hb dL_law_1030 rfl (lv_at hl 3 rfl) ?_
  refine lv_iconst (v := 1) hx hb dL_law_1031 (by decide) ?_
  refine lv_iadd hx hb dL_law_1032 ?_
  refine va_sld hx hb hX hbl hbA hS h1 dL_law_1033 ?_
  have hwp := pl δ σ σm x hR (xs (i + 1).toNatClampNeg)
  refine l_ygoi (vx_runVX (As := [.int (xs (i + 1).toNatClampNeg)]) (rest := []) ⟨hx, hb, hml, hown, hts⟩ (xt_S_curtains hst h0 hwp H.size) (vx_cwVW 1 hts (lw_VW q1130 q1131 q1132 q75 q1133) rfl rfl rfl (by decide +kernel) ⟨(Nat.le_of_ble_eq_true rfl), (Nat.le_of_ble_eq_true rfl)⟩) (y_preV hK hB.2.1 hB.2.2.1 hA hZ hB.1 hS 0 x h0 rfl rfl) rfl rfl hl.1 rfl (lv_room (Nat.le_of_ble_eq_true rfl)) dL_law_1034 ⟨(show _ ≤ 603072 by omega), (show _ ≤ 7262314 by omega)⟩) hB hA hS (fun r1 u H locs hk hB hS => ?_)
  obtain ⟨hwp, hE⟩ := hk
  replace h0 := hE.m h0
  obtain ⟨δ, σ⟩ := u
  refine lv_aload_n hx hb dL_law_1037 rfl (lv_at hl 2 rfl) ?_
  refine lv_aload_n hx hb dL_law_1038 rfl (lv_at hl 0 rfl) ?_
  refine lv_iload_n hx hb dL_law_1039 rfl (lv_at hl 3 rfl) ?_
  refine lv_iconst (v := 1) hx hb dL_law_1040 (by decide) ?_
  refine lv_iadd hx hb dL_law_1041 ?_
  refine va_sld hx hb hX hbl hbA hS h1 dL_law_1042 ?_
  refine l_mi (avs := [.int (xs (i + 1).toNatClampNeg)]) ⟨hx, hb, hml, hown, hts⟩ hK.1 hB hA hS (mt_curtains hwp) (cwV 1 hts (lw_V q1697 q1698 q1699 q79 q1700) rfl rfl rfl (by decide +kernel) ⟨(Nat.le_of_ble_eq_true rfl), (Nat.le_of_ble_eq_true rfl)⟩) rfl hl.1 rfl (Nat.le_of_ble_eq_true rfl) dL_law_1043 ⟨(show _ ≤ 603072 by omega), (show _ ≤ 7262314 by omega)⟩ (fun r2 u2 H locs hk hB hS => ?_)
  obtain ⟨eq, hR⟩ := hk
  refine lv_icmp_eq (tgt := 1435) hx hb dL_law_1046 (by decide) (fun _ => ?_) (fun c9 => absurd eq c9)
  exact W.widen (k := cells + 4659) (n := slots + 33787) (by omega) (by omega) (kk _ _ _ _ _ _ h0 hR hB hS hl)
set_option maxHeartbeats 4000000 in
set_option maxRecDepth 100000 in
theorem lc_newly {p : Program} {l : Launch} {e : Env} {s : State} {m : MethodId} {below : List Frame} {meth : Method} {c : Code} {b L : Nat} {xs : Nat → Int32} {Γ : GA} {α : Nat → Nat} {x : Nat} {RL : XSh → XSt → MSt → Nat → Prop} (X : CL p s m meth c b L xs Γ) (hst : l.stackTraces = false) (pl : Pl_newly RL) {i : Int32} (h1 : vp_in (i + 1) L) (h2 : vp_in (i + 2) L) (h3 : vp_in (i + 3) L) (h4 : vp_in (i + 4) L) (h5 : vp_in (i + 5) L) {cells slots : Nat} (hc : cells + 4659 ≤ 603072) (hs : slots + 33787 ≤ 7262314) (kk : LT p l e s m below meth c b Γ α x RL i (cells + 4659) (slots + 33787) 1435) : LT p l e s m below meth c b Γ α x RL i cells slots 1051 := by
  intro δ σ σm H locs ls h0 hR hB hS hl
  obtain ⟨hx, hb, hml, hown, hts, hK, hZ, hX, hbl⟩ := id X
  have hbA : ¬ AL s b := Nat.not_le.mpr hbl
  have hA : ∀ q, s.heap.size ≤ q → AL s q := fun _ h => h
  refine lv_aload_n hx hb dL_law_1051 rfl (lv_at hl 1 rfl) ?_
  refine lv_aload_n hx hb dL_law_1052 rfl (lv_at hl 0 rfl) ?_
  refine lv_iload_n hx hb dL_law_1053 rfl (lv_at hl 3 rfl) ?_
  refine lv_iconst (v := 1) hx hb dL_law_1054 (by decide) ?_
  refine lv_iadd hx hb dL_law_1055 ?_
  refine va_sld hx hb hX hbl hbA hS h1 dL_law_1056 ?_
  have hwp := pl δ σ σm x hR (xs (i + 1).toNatClampNeg)
  refine l_ygoi (vx_runVX (As := [.int (xs (i + 1).toNatClampNeg)]) (rest := []) ⟨hx, hb, hml, hown, hts⟩ (xt_S_newly hst h0 hwp H.size) (vx_cwVW 1 hts (lw_VW q1147 q1148 q1149 q75 q1150) rfl rfl rfl (by decide +kernel) ⟨(Nat.le_of_ble_eq_true rfl), (Nat.le_of_ble_eq_true rfl)⟩) (y_preV hK hB.2.1 hB.2.2.1 hA hZ hB.1 hS 0 x h0 rfl rfl) rfl rfl hl.1 rfl (lv_room (Nat.le_of_ble_eq_true rfl)) dL_law_1057 ⟨(show _ ≤ 603072 by omega), (show _ ≤ 7262314 by omega)⟩) hB hA hS (fun r1 u H locs hk hB hS => ?_)
  obtain ⟨hwp, hE⟩ := hk
  replace h0 := hE.m h0
  obtain ⟨δ, σ⟩ := u
  refine lv_aload_n hx hb dL_law_1060 rfl (lv_at hl 2 rfl) ?_
  refine lv_aload_n hx hb dL_law_1061 rfl (lv_at hl 0 rfl) ?_
  refine lv_iload_n hx hb dL_law_1062 rfl (lv_at hl 3 rfl) ?_
  refine lv_iconst (v := 1) hx hb dL_law_1063 (by decide) ?_
  refine lv_iadd hx hb dL_law_1064 ?_
  refine va_sld hx hb hX hbl hbA hS h1 dL_law_1065 ?_
  refine l_mi (avs := [.int (xs (i + 1).toNatClampNeg)]) ⟨hx, hb, hml, hown, hts⟩ hK.1 hB hA hS (mt_newly hwp) (cwV 1 hts (lw_V q1717 q1718 q1719 q79 q1720) rfl rfl rfl (by decide +kernel) ⟨(Nat.le_of_ble_eq_true rfl), (Nat.le_of_ble_eq_true rfl)⟩) rfl hl.1 rfl (Nat.le_of_ble_eq_true rfl) dL_law_1066 ⟨(show _ ≤ 603072 by omega), (show _ ≤ 7262314 by omega)⟩ (fun r2 u2 H locs hk hB hS => ?_)
  obtain ⟨eq, hR⟩ := hk
  refine lv_icmp_eq (tgt := 1435) hx hb dL_law_1069 (by decide) (fun _ => ?_) (fun c9 => absurd eq c9)
  exact W.widen (k := cells + 4659) (n := slots + 33787) (by omega) (by omega) (kk _ _ _ _ _ _ h0 hR hB hS hl)
set_option maxHeartbeats 4000000 in
set_option maxRecDepth 100000 in
theorem lc_storey {p : Program} {l : Launch} {e : Env} {s : State} {m : MethodId} {below : List Frame} {meth : Method} {c : Code} {b L : Nat} {xs : Nat → Int32} {Γ : GA} {α : Nat → Nat} {x : Nat} {RL : XSh → XSt → MSt → Nat → Prop} (X : CL p s m meth c b L xs Γ) (hst : l.stackTraces = false) (pl : Pl_storey RL) {i : Int32} (h1 : vp_in (i + 1) L) (h2 : vp_in (i + 2) L) (h3 : vp_in (i + 3) L) (h4 : vp_in (i + 4) L) (h5 : vp_in (i + 5) L) {cells slots : Nat} (hc : cells + 4659 ≤ 603072) (hs : slots + 33787 ≤ 7262314) (kk : LT p l e s m below meth c b Γ α x RL i (cells + 4659) (slots + 33787) 1435) : LT p l e s m below meth c b Γ α x RL i cells slots 1074 := by
  intro δ σ σm H locs ls h0 hR hB hS hl
  obtain ⟨hx, hb, hml, hown, hts, hK, hZ, hX, hbl⟩ := id X
  have hbA : ¬ AL s b := Nat.not_le.mpr hbl
  have hA : ∀ q, s.heap.size ≤ q → AL s q := fun _ h => h
  refine lv_aload_n hx hb dL_law_1074 rfl (lv_at hl 1 rfl) ?_
  refine lv_aload_n hx hb dL_law_1075 rfl (lv_at hl 0 rfl) ?_
  refine lv_iload_n hx hb dL_law_1076 rfl (lv_at hl 3 rfl) ?_
  refine lv_iconst (v := 1) hx hb dL_law_1077 (by decide) ?_
  refine lv_iadd hx hb dL_law_1078 ?_
  refine va_sld hx hb hX hbl hbA hS h1 dL_law_1079 ?_
  have hwp := pl δ σ σm x hR (xs (i + 1).toNatClampNeg)
  refine l_ygoi (vx_runVX (As := [.int (xs (i + 1).toNatClampNeg)]) (rest := []) ⟨hx, hb, hml, hown, hts⟩ (xt_S_storey hst h0 hwp H.size) (vx_cwVW 1 hts (lw_VW q1156 q1157 q1158 q75 q1159) rfl rfl rfl (by decide +kernel) ⟨(Nat.le_of_ble_eq_true rfl), (Nat.le_of_ble_eq_true rfl)⟩) (y_preV hK hB.2.1 hB.2.2.1 hA hZ hB.1 hS 0 x h0 rfl rfl) rfl rfl hl.1 rfl (lv_room (Nat.le_of_ble_eq_true rfl)) dL_law_1080 ⟨(show _ ≤ 603072 by omega), (show _ ≤ 7262314 by omega)⟩) hB hA hS (fun r1 u H locs hk hB hS => ?_)
  obtain ⟨hwp, hE⟩ := hk
  replace h0 := hE.m h0
  obtain ⟨δ, σ⟩ := u
  refine lv_aload_n hx hb dL_law_1083 rfl (lv_at hl 2 rfl) ?_
  refine lv_aload_n hx hb dL_law_1084 rfl (lv_at hl 0 rfl) ?_
  refine lv_iload_n hx hb dL_law_1085 rfl (lv_at hl 3 rfl) ?_
  refine lv_iconst (v := 1) hx hb dL_law_1086 (by decide) ?_
  refine lv_iadd hx hb dL_law_1087 ?_
  refine va_sld hx hb hX hbl hbA hS h1 dL_law_1088 ?_
  refine l_mi (avs := [.int (xs (i + 1).toNatClampNeg)]) ⟨hx, hb, hml, hown, hts⟩ hK.1 hB hA hS (mt_storey hwp) (cwV 1 hts (lw_V q1721 q1722 q1723 q79 q1724) rfl rfl rfl (by decide +kernel) ⟨(Nat.le_of_ble_eq_true rfl), (Nat.le_of_ble_eq_true rfl)⟩) rfl hl.1 rfl (Nat.le_of_ble_eq_true rfl) dL_law_1089 ⟨(show _ ≤ 603072 by omega), (show _ ≤ 7262314 by omega)⟩ (fun r2 u2 H locs hk hB hS => ?_)
  obtain ⟨eq, hR⟩ := hk
  refine lv_icmp_eq (tgt := 1435) hx hb dL_law_1092 (by decide) (fun _ => ?_) (fun c9 => absurd eq c9)
  exact W.widen (k := cells + 4659) (n := slots + 33787) (by omega) (by omega) (kk _ _ _ _ _ _ h0 hR hB hS hl)
set_option maxHeartbeats 4000000 in
set_option maxRecDepth 100000 in
theorem lc_blinded {p : Program} {l : Launch} {e : Env} {s : State} {m : MethodId} {below : List Frame} {meth : Method} {c : Code} {b L : Nat} {xs : Nat → Int32} {Γ : GA} {α : Nat → Nat} {x : Nat} {RL : XSh → XSt → MSt → Nat → Prop} (X : CL p s m meth c b L xs Γ) (hst : l.stackTraces = false) (pl : Pl_blinded RL) {i : Int32} (h1 : vp_in (i + 1) L) (h2 : vp_in (i + 2) L) (h3 : vp_in (i + 3) L) (h4 : vp_in (i + 4) L) (h5 : vp_in (i + 5) L) {cells slots : Nat} (hc : cells + 4659 ≤ 603072) (hs : slots + 33787 ≤ 7262314) (kk : LT p l e s m below meth c b Γ α x RL i (cells + 4659) (slots + 33787) 1435) : LT p l e s m below meth c b Γ α x RL i cells slots 1097 := by
  intro δ σ σm H locs ls h0 hR hB hS hl
  obtain ⟨hx, hb, hml, hown, hts, hK, hZ, hX, hbl⟩ := id X
  have hbA : ¬ AL s b := Nat.not_le.mpr hbl
  have hA : ∀ q, s.heap.size ≤ q → AL s q := fun _ h => h
  refine lv_aload_n hx hb dL_law_1097 rfl (lv_at hl 1 rfl) ?_
  refine lv_aload_n hx hb dL_law_1098 rfl (lv_at hl 0 rfl) ?_
  refine lv_iload_n hx hb dL_law_1099 rfl (lv_at hl 3 rfl) ?_
  refine lv_iconst (v := 1) hx hb dL_law_1100 (by decide) ?_
  refine lv_iadd hx hb dL_law_1101 ?_
  refine va_sld hx hb hX hbl hbA hS h1 dL_law_1102 ?_
  have hwp := pl δ σ σm x hR (xs (i + 1).toNatClampNeg)
  refine l_ygoi (vx_runVX (As := [.int (xs (i + 1).toNatClampNeg)]) (rest := []) ⟨hx, hb, hml, hown, hts⟩ (xt_S_blinded hst h0 hwp H.size) (vx_cwVW 1 hts (lw_VW q1164 q1165 q1166 q75 q1167) rfl rfl rfl (by decide +kernel) ⟨(Nat.le_of_ble_eq_true rfl), (Nat.le_of_ble_eq_true rfl)⟩) (y_preV hK hB.2.1 hB.2.2.1 hA hZ hB.1 hS 0 x h0 rfl rfl) rfl rfl hl.1 rfl (lv_room (Nat.le_of_ble_eq_true rfl)) dL_law_1103 ⟨(show _ ≤ 603072 by omega), (show _ ≤ 7262314 by omega)⟩) hB hA hS (fun r1 u H locs hk hB hS => ?_)
  obtain ⟨hwp, hE⟩ := hk
  replace h0 := hE.m h0
  obtain ⟨δ, σ⟩ := u
  refine lv_aload_n hx hb dL_law_1106 rfl (lv_at hl 2 rfl) ?_
  refine lv_aload_n hx hb dL_law_1107 rfl (lv_at hl 0 rfl) ?_
  refine lv_iload_n hx hb dL_law_1108 rfl (lv_at hl 3 rfl) ?_
  refine lv_iconst (v := 1) hx hb dL_law_1109 (by decide) ?_
  refine lv_iadd hx hb dL_law_1110 ?_
  refine va_sld hx hb hX hbl hbA hS h1 dL_law_1111 ?_
  refine l_mi (avs := [.int (xs (i + 1).toNatClampNeg)]) ⟨hx, hb, hml, hown, hts⟩ hK.1 hB hA hS (mt_blinded hwp) (cwV 1 hts (lw_V q1729 q1730 q1731 q79 q1732) rfl rfl rfl (by decide +kernel) ⟨(Nat.le_of_ble_eq_true rfl), (Nat.le_of_ble_eq_true rfl)⟩) rfl hl.1 rfl (Nat.le_of_ble_eq_true rfl) dL_law_1112 ⟨(show _ ≤ 603072 by omega), (show _ ≤ 7262314 by omega)⟩ (fun r2 u2 H locs hk hB hS => ?_)
  obtain ⟨eq, hR⟩ := hk
  refine lv_icmp_eq (tgt := 1435) hx hb dL_law_1115 (by decide) (fun _ => ?_) (fun c9 => absurd eq c9)
  exact W.widen (k := cells + 4659) (n := slots + 33787) (by omega) (by omega) (kk _ _ _ _ _ _ h0 hR hB hS hl)
set_option maxHeartbeats 4000000 in
set_option maxRecDepth 100000 in
theorem lc_felled {p : Program} {l : Launch} {e : Env} {s : State} {m : MethodId} {below : List Frame} {meth : Method} {c : Code} {b L : Nat} {xs : Nat → Int32} {Γ : GA} {α : Nat → Nat} {x : Nat} {RL : XSh → XSt → MSt → Nat → Prop} (X : CL p s m meth c b L xs Γ) (hst : l.stackTraces = false) (pl : Pl_felled RL) {i : Int32} (h1 : vp_in (i + 1) L) (h2 : vp_in (i + 2) L) (h3 : vp_in (i + 3) L) (h4 : vp_in (i + 4) L) (h5 : vp_in (i + 5) L) {cells slots : Nat} (hc : cells + 4659 ≤ 603072) (hs : slots + 33787 ≤ 7262314) (kk : LT p l e s m below meth c b Γ α x RL i (cells + 4659) (slots + 33787) 1435) : LT p l e s m below meth c b Γ α x RL i cells slots 1120 := by
  intro δ σ σm H locs ls h0 hR hB hS hl
  obtain ⟨hx, hb, hml, hown, hts, hK, hZ, hX, hbl⟩ := id X
  have hbA : ¬ AL s b := Nat.not_le.mpr hbl
  have hA : ∀ q, s.heap.size ≤ q → AL s q := fun _ h => h
  refine lv_aload_n hx hb dL_law_1120 rfl (lv_at hl 1 rfl) ?_
  refine lv_aload_n hx hb dL_law_1121 rfl (lv_at hl 0 rfl) ?_
  refine lv_iload_n hx hb dL_law_1122 rfl (lv_at hl 3 rfl) ?_
  refine lv_iconst (v := 1) hx hb dL_law_1123 (by decide) ?_
  refine lv_iadd hx hb dL_law_1124 ?_
  refine va_sld hx hb hX hbl hbA hS h1 dL_law_1125 ?_
  have hwp := pl δ σ σm x hR (xs (i + 1).toNatClampNeg)
  refine l_ygoi (vx_runVX (As := [.int (xs (i + 1).toNatClampNeg)]) (rest := []) ⟨hx, hb, hml, hown, hts⟩ (xt_S_felled hst h0 hwp H.size) (vx_cwVW 1 hts (lw_VW q1169 q1170 q1171 q75 q1172) rfl rfl rfl (by decide +kernel) ⟨(Nat.le_of_ble_eq_true rfl), (Nat.le_of_ble_eq_true rfl)⟩) (y_preV hK hB.2.1 hB.2.2.1 hA hZ hB.1 hS 0 x h0 rfl rfl) rfl rfl hl.1 rfl (lv_room (Nat.le_of_ble_eq_true rfl)) dL_law_1126 ⟨(show _ ≤ 603072 by omega), (show _ ≤ 7262314 by omega)⟩) hB hA hS (fun r1 u H locs hk hB hS => ?_)
  obtain ⟨hwp, hE⟩ := hk
  replace h0 := hE.m h0
  obtain ⟨δ, σ⟩ := u
  refine lv_aload_n hx hb dL_law_1129 rfl (lv_at hl 2 rfl) ?_
  refine lv_aload_n hx hb dL_law_1130 rfl (lv_at hl 0 rfl) ?_
  refine lv_iload_n hx hb dL_law_1131 rfl (lv_at hl 3 rfl) ?_
  refine lv_iconst (v := 1) hx hb dL_law_1132 (by decide) ?_
  refine lv_iadd hx hb dL_law_1133 ?_
  refine va_sld hx hb hX hbl hbA hS h1 dL_law_1134 ?_
  refine l_mi (avs := [.int (xs (i + 1).toNatClampNeg)]) ⟨hx, hb, hml, hown, hts⟩ hK.1 hB hA hS (mt_felled hwp) (cwV 1 hts (lw_V q1733 q1734 q1735 q79 q1736) rfl rfl rfl (by decide +kernel) ⟨(Nat.le_of_ble_eq_true rfl), (Nat.le_of_ble_eq_true rfl)⟩) rfl hl.1 rfl (Nat.le_of_ble_eq_true rfl) dL_law_1135 ⟨(show _ ≤ 603072 by omega), (show _ ≤ 7262314 by omega)⟩ (fun r2 u2 H locs hk hB hS => ?_)
  obtain ⟨eq, hR⟩ := hk
  refine lv_icmp_eq (tgt := 1435) hx hb dL_law_1138 (by decide) (fun _ => ?_) (fun c9 => absurd eq c9)
  exact W.widen (k := cells + 4659) (n := slots + 33787) (by omega) (by omega) (kk _ _ _ _ _ _ h0 hR hB hS hl)
set_option maxHeartbeats 4000000 in
set_option maxRecDepth 100000 in
theorem lc_pairs {p : Program} {l : Launch} {e : Env} {s : State} {m : MethodId} {below : List Frame} {meth : Method} {c : Code} {b L : Nat} {xs : Nat → Int32} {Γ : GA} {α : Nat → Nat} {x : Nat} {RL : XSh → XSt → MSt → Nat → Prop} (X : CL p s m meth c b L xs Γ) (hst : l.stackTraces = false) (pl : Pl_pairs RL) {i : Int32} (h1 : vp_in (i + 1) L) (h2 : vp_in (i + 2) L) (h3 : vp_in (i + 3) L) (h4 : vp_in (i + 4) L) (h5 : vp_in (i + 5) L) {cells slots : Nat} (hc : cells + 4659 ≤ 603072) (hs : slots + 33787 ≤ 7262314) (kk : LT p l e s m below meth c b Γ α x RL i (cells + 4659) (slots + 33787) 1435) : LT p l e s m below meth c b Γ α x RL i cells slots 1143 := by
  intro δ σ σm H locs ls h0 hR hB hS hl
  obtain ⟨hx, hb, hml, hown, hts, hK, hZ, hX, hbl⟩ := id X
  have hbA : ¬ AL s b := Nat.not_le.mpr hbl
  have hA : ∀ q, s.heap.size ≤ q → AL s q := fun _ h => h
  refine lv_aload_n hx hb dL_law_1143 rfl (lv_at hl 1 rfl) ?_
  have hwp := pl δ σ σm x hR
  refine l_goi (va_runV (As := []) (rest := []) ⟨hx, hb, hml, hown, hts⟩ (xt_S_pairs h0 hwp H.size) (cwV 0 hts (lw_V q1173 q1174 q1175 q75 q1176) rfl rfl rfl (by decide +kernel) ⟨(Nat.le_of_ble_eq_true rfl), (Nat.le_of_ble_eq_true rfl)⟩) (x_preV hK hB.2.1 hB.2.2.1 hB.1 0 x h0 rfl rfl) rfl rfl hl.1 rfl (lv_room (Nat.le_of_ble_eq_true rfl)) dL_law_1144 ⟨(show _ ≤ 603072 by omega), (show _ ≤ 7262314 by omega)⟩) hB hA hS (fun r1 u H locs hk hB hS => ?_)
  obtain ⟨hwp, hE⟩ := hk
  obtain ⟨δ1, σ1⟩ := u
  cases hE
  refine lv_aload_n hx hb dL_law_1147 rfl (lv_at hl 2 rfl) ?_
  refine l_mi (avs := []) ⟨hx, hb, hml, hown, hts⟩ hK.1 hB hA hS (mt_pairs hwp) (cwV 0 hts (lw_V q1737 q1738 q1739 q79 q1740) rfl rfl rfl (by decide +kernel) ⟨(Nat.le_of_ble_eq_true rfl), (Nat.le_of_ble_eq_true rfl)⟩) rfl hl.1 rfl (Nat.le_of_ble_eq_true rfl) dL_law_1148 ⟨(show _ ≤ 603072 by omega), (show _ ≤ 7262314 by omega)⟩ (fun r2 u2 H locs hk hB hS => ?_)
  obtain ⟨⟨eq, hR⟩, hu⟩ := hk
  replace hu := hu.symm
  subst hu
  refine lv_icmp_eq (tgt := 1435) hx hb dL_law_1151 (by decide) (fun _ => ?_) (fun c9 => absurd eq c9)
  exact W.widen (k := cells + 4659) (n := slots + 33787) (by omega) (by omega) (kk _ _ _ _ _ _ h0 hR hB hS hl)
set_option maxHeartbeats 4000000 in
set_option maxRecDepth 100000 in
theorem lc_back {p : Program} {l : Launch} {e : Env} {s : State} {m : MethodId} {below : List Frame} {meth : Method} {c : Code} {b L : Nat} {xs : Nat → Int32} {Γ : GA} {α : Nat → Nat} {x : Nat} {RL : XSh → XSt → MSt → Nat → Prop} (X : CL p s m meth c b L xs Γ) (hst : l.stackTraces = false) (pl : Pl_back RL) {i : Int32} (h1 : vp_in (i + 1) L) (h2 : vp_in (i + 2) L) (h3 : vp_in (i + 3) L) (h4 : vp_in (i + 4) L) (h5 : vp_in (i + 5) L) {cells slots : Nat} (hc : cells + 4659 ≤ 603072) (hs : slots + 33787 ≤ 7262314) (kk : LT p l e s m below meth c b Γ α x RL i (cells + 4659) (slots + 33787) 1435) : LT p l e s m below meth c b Γ α x RL i cells slots 1156 := by
  intro δ σ σm H locs ls h0 hR hB hS hl
  obtain ⟨hx, hb, hml, hown, hts, hK, hZ, hX, hbl⟩ := id X
  have hbA : ¬ AL s b := Nat.not_le.mpr hbl
  have hA : ∀ q, s.heap.size ≤ q → AL s q := fun _ h => h
  refine lv_aload_n hx hb dL_law_1156 rfl (lv_at hl 1 rfl) ?_
  refine lv_aload_n hx hb dL_law_1157 rfl (lv_at hl 0 rfl) ?_
  refine lv_iload_n hx hb dL_law_1158 rfl (lv_at hl 3 rfl) ?_
  refine lv_iconst (v := 1) hx hb dL_law_1159 (by decide) ?_
  refine lv_iadd hx hb dL_law_1160 ?_
  refine va_sld hx hb hX hbl hbA hS h1 dL_law_1161 ?_
  have hwp := pl δ σ σm x hR (xs (i + 1).toNatClampNeg)
  refine l_ygoi (vx_runVX (As := [.int (xs (i + 1).toNatClampNeg)]) (rest := []) ⟨hx, hb, hml, hown, hts⟩ (xt_S_back hst h0 hwp H.size) (vx_cwVW 1 hts (lw_VW q1177 q1178 q1179 q75 q1180) rfl rfl rfl (by decide +kernel) ⟨(Nat.le_of_ble_eq_true rfl), (Nat.le_of_ble_eq_true rfl)⟩) (y_preV hK hB.2.1 hB.2.2.1 hA hZ hB.1 hS 0 x h0 rfl rfl) rfl rfl hl.1 rfl (lv_room (Nat.le_of_ble_eq_true rfl)) dL_law_1162 ⟨(show _ ≤ 603072 by omega), (show _ ≤ 7262314 by omega)⟩) hB hA hS (fun r1 u H locs hk hB hS => ?_)
  obtain ⟨hwp, hE⟩ := hk
  replace h0 := hE.m h0
  obtain ⟨δ, σ⟩ := u
  refine lv_aload_n hx hb dL_law_1165 rfl (lv_at hl 2 rfl) ?_
  refine lv_aload_n hx hb dL_law_1166 rfl (lv_at hl 0 rfl) ?_
  refine lv_iload_n hx hb dL_law_1167 rfl (lv_at hl 3 rfl) ?_
  refine lv_iconst (v := 1) hx hb dL_law_1168 (by decide) ?_
  refine lv_iadd hx hb dL_law_1169 ?_
  refine va_sld hx hb hX hbl hbA hS h1 dL_law_1170 ?_
  refine l_mi (avs := [.int (xs (i + 1).toNatClampNeg)]) ⟨hx, hb, hml, hown, hts⟩ hK.1 hB hA hS (mt_back hwp) (cwV 1 hts (lw_V q1741 q1742 q1743 q79 q1744) rfl rfl rfl (by decide +kernel) ⟨(Nat.le_of_ble_eq_true rfl), (Nat.le_of_ble_eq_true rfl)⟩) rfl hl.1 rfl (Nat.le_of_ble_eq_true rfl) dL_law_1171 ⟨(show _ ≤ 603072 by omega), (show _ ≤ 7262314 by omega)⟩ (fun r2 u2 H locs hk hB hS => ?_)
  obtain ⟨eq, hR⟩ := hk
  refine lv_icmp_eq (tgt := 1435) hx hb dL_law_1174 (by decide) (fun _ => ?_) (fun c9 => absurd eq c9)
  exact W.widen (k := cells + 4659) (n := slots + 33787) (by omega) (by omega) (kk _ _ _ _ _ _ h0 hR hB hS hl)
set_option maxHeartbeats 4000000 in
set_option maxRecDepth 100000 in
theorem lc_most {p : Program} {l : Launch} {e : Env} {s : State} {m : MethodId} {below : List Frame} {meth : Method} {c : Code} {b L : Nat} {xs : Nat → Int32} {Γ : GA} {α : Nat → Nat} {x : Nat} {RL : XSh → XSt → MSt → Nat → Prop} (X : CL p s m meth c b L xs Γ) (hst : l.stackTraces = false) (pl : Pl_most RL) {i : Int32} (h1 : vp_in (i + 1) L) (h2 : vp_in (i + 2) L) (h3 : vp_in (i + 3) L) (h4 : vp_in (i + 4) L) (h5 : vp_in (i + 5) L) {cells slots : Nat} (hc : cells + 4659 ≤ 603072) (hs : slots + 33787 ≤ 7262314) (kk : LT p l e s m below meth c b Γ α x RL i (cells + 4659) (slots + 33787) 1435) : LT p l e s m below meth c b Γ α x RL i cells slots 1179 := by
  intro δ σ σm H locs ls h0 hR hB hS hl
  obtain ⟨hx, hb, hml, hown, hts, hK, hZ, hX, hbl⟩ := id X
  have hbA : ¬ AL s b := Nat.not_le.mpr hbl
  have hA : ∀ q, s.heap.size ≤ q → AL s q := fun _ h => h
  refine lv_aload_n hx hb dL_law_1179 rfl (lv_at hl 1 rfl) ?_
  have hwp := pl δ σ σm x hR
  refine l_ygoi (vx_runVX (As := []) (rest := []) ⟨hx, hb, hml, hown, hts⟩ (xt_S_most hst h0 hwp H.size) (vx_cwVW 0 hts (lw_VW q1181 q1182 q1183 q75 q1184) rfl rfl rfl (by decide +kernel) ⟨(Nat.le_of_ble_eq_true rfl), (Nat.le_of_ble_eq_true rfl)⟩) (y_preV hK hB.2.1 hB.2.2.1 hA hZ hB.1 hS 0 x h0 rfl rfl) rfl rfl hl.1 rfl (lv_room (Nat.le_of_ble_eq_true rfl)) dL_law_1180 ⟨(show _ ≤ 603072 by omega), (show _ ≤ 7262314 by omega)⟩) hB hA hS (fun r1 u H locs hk hB hS => ?_)
  obtain ⟨hwp, hE⟩ := hk
  replace h0 := hE.m h0
  obtain ⟨δ, σ⟩ := u
  refine lv_aload_n hx hb dL_law_1183 rfl (lv_at hl 2 rfl) ?_
  refine l_mi (avs := []) ⟨hx, hb, hml, hown, hts⟩ hK.1 hB hA hS (mt_most hwp) (cwV 0 hts (lw_V q1749 q1750 q1751 q79 q1752) rfl rfl rfl (by decide +kernel) ⟨(Nat.le_of_ble_eq_true rfl), (Nat.le_of_ble_eq_true rfl)⟩) rfl hl.1 rfl (Nat.le_of_ble_eq_true rfl) dL_law_1184 ⟨(show _ ≤ 603072 by omega), (show _ ≤ 7262314 by omega)⟩ (fun r2 u2 H locs hk hB hS => ?_)
  obtain ⟨eq, hR⟩ := hk
  refine lv_icmp_eq (tgt := 1435) hx hb dL_law_1187 (by decide) (fun _ => ?_) (fun c9 => absurd eq c9)
  exact W.widen (k := cells + 4659) (n := slots + 33787) (by omega) (by omega) (kk _ _ _ _ _ _ h0 hR hB hS hl)
set_option maxHeartbeats 4000000 in
set_option maxRecDepth 100000 in
theorem lc_list {p : Program} {l : Launch} {e : Env} {s : State} {m : MethodId} {below : List Frame} {meth : Method} {c : Code} {b L : Nat} {xs : Nat → Int32} {Γ : GA} {α : Nat → Nat} {x : Nat} {RL : XSh → XSt → MSt → Nat → Prop} (X : CL p s m meth c b L xs Γ) (hst : l.stackTraces = false) (pl : Pl_list RL) {i : Int32} (h1 : vp_in (i + 1) L) (h2 : vp_in (i + 2) L) (h3 : vp_in (i + 3) L) (h4 : vp_in (i + 4) L) (h5 : vp_in (i + 5) L) {cells slots : Nat} (hc : cells + 4659 ≤ 603072) (hs : slots + 33787 ≤ 7262314) (kk : LT p l e s m below meth c b Γ α x RL i (cells + 4659) (slots + 33787) 1435) : LT p l e s m below meth c b Γ α x RL i cells slots 1192 := by
  intro δ σ σm H locs ls h0 hR hB hS hl
  obtain ⟨hx, hb, hml, hown, hts, hK, hZ, hX, hbl⟩ := id X
  have hbA : ¬ AL s b := Nat.not_le.mpr hbl
  have hA : ∀ q, s.heap.size ≤ q → AL s q := fun _ h => h
  refine lv_aload_n hx hb dL_law_1192 rfl (lv_at hl 1 rfl) ?_
  refine lv_aload_n hx hb dL_law_1193 rfl (lv_at hl 0 rfl) ?_
  refine lv_iload_n hx hb dL_law_1194 rfl (lv_at hl 3 rfl) ?_
  refine lv_iconst (v := 1) hx hb dL_law_1195 (by decide) ?_
  refine lv_iadd hx hb dL_law_1196 ?_
  refine va_sld hx hb hX hbl hbA hS h1 dL_law_1197 ?_
  refine lv_aload_n hx hb dL_law_1198 rfl (lv_at hl 0 rfl) ?_
  refine lv_iload_n hx hb dL_law_1199 rfl (lv_at hl 3 rfl) ?_
  refine lv_iconst (v := 2) hx hb dL_law_1200 (by decide) ?_
  refine lv_iadd hx hb dL_law_1201 ?_
  refine va_sld hx hb hX hbl hbA hS h2 dL_law_1202 ?_
  have hwp := pl δ σ σm x hR (xs (i + 1).toNatClampNeg) (xs (i + 2).toNatClampNeg)
  refine l_ygoi (vx_runVX (As := [.int (xs (i + 1).toNatClampNeg), .int (xs (i + 2).toNatClampNeg)]) (rest := []) ⟨hx, hb, hml, hown, hts⟩ (xt_S_list hst h0 hwp H.size) (vx_cwVW 2 hts (lw_VW q1185 q1186 q1187 q75 q1188) rfl rfl rfl (by decide +kernel) ⟨(Nat.le_of_ble_eq_true rfl), (Nat.le_of_ble_eq_true rfl)⟩) (y_preV hK hB.2.1 hB.2.2.1 hA hZ hB.1 hS 0 x h0 rfl rfl) rfl rfl hl.1 rfl (lv_room (Nat.le_of_ble_eq_true rfl)) dL_law_1203 ⟨(show _ ≤ 603072 by omega), (show _ ≤ 7262314 by omega)⟩) hB hA hS (fun r1 u H locs hk hB hS => ?_)
  obtain ⟨hwp, hE⟩ := hk
  replace h0 := hE.m h0
  obtain ⟨δ, σ⟩ := u
  refine lv_aload_n hx hb dL_law_1206 rfl (lv_at hl 2 rfl) ?_
  refine lv_aload_n hx hb dL_law_1207 rfl (lv_at hl 0 rfl) ?_
  refine lv_iload_n hx hb dL_law_1208 rfl (lv_at hl 3 rfl) ?_
  refine lv_iconst (v := 1) hx hb dL_law_1209 (by decide) ?_
  refine lv_iadd hx hb dL_law_1210 ?_
  refine va_sld hx hb hX hbl hbA hS h1 dL_law_1211 ?_
  refine lv_aload_n hx hb dL_law_1212 rfl (lv_at hl 0 rfl) ?_
  refine lv_iload_n hx hb dL_law_1213 rfl (lv_at hl 3 rfl) ?_
  refine lv_iconst (v := 2) hx hb dL_law_1214 (by decide) ?_
  refine lv_iadd hx hb dL_law_1215 ?_
  refine va_sld hx hb hX hbl hbA hS h2 dL_law_1216 ?_
  refine l_mi (avs := [.int (xs (i + 1).toNatClampNeg), .int (xs (i + 2).toNatClampNeg)]) ⟨hx, hb, hml, hown, hts⟩ hK.1 hB hA hS (mt_list hwp) (cwV 2 hts (lw_V q1753 q1754 q1755 q79 q1756) rfl rfl rfl (by decide +kernel) ⟨(Nat.le_of_ble_eq_true rfl), (Nat.le_of_ble_eq_true rfl)⟩) rfl hl.1 rfl (Nat.le_of_ble_eq_true rfl) dL_law_1217 ⟨(show _ ≤ 603072 by omega), (show _ ≤ 7262314 by omega)⟩ (fun r2 u2 H locs hk hB hS => ?_)
  obtain ⟨eq, hR⟩ := hk
  refine lv_icmp_eq (tgt := 1435) hx hb dL_law_1220 (by decide) (fun _ => ?_) (fun c9 => absurd eq c9)
  exact W.widen (k := cells + 4659) (n := slots + 33787) (by omega) (by omega) (kk _ _ _ _ _ _ h0 hR hB hS hl)
set_option maxHeartbeats 4000000 in
set_option maxRecDepth 100000 in
theorem lc_night {p : Program} {l : Launch} {e : Env} {s : State} {m : MethodId} {below : List Frame} {meth : Method} {c : Code} {b L : Nat} {xs : Nat → Int32} {Γ : GA} {α : Nat → Nat} {x : Nat} {RL : XSh → XSt → MSt → Nat → Prop} (X : CL p s m meth c b L xs Γ) (hst : l.stackTraces = false) (pl : Pl_night RL) {i : Int32} (h1 : vp_in (i + 1) L) (h2 : vp_in (i + 2) L) (h3 : vp_in (i + 3) L) (h4 : vp_in (i + 4) L) (h5 : vp_in (i + 5) L) {cells slots : Nat} (hc : cells + 4659 ≤ 603072) (hs : slots + 33787 ≤ 7262314) (kk : LT p l e s m below meth c b Γ α x RL i (cells + 4659) (slots + 33787) 1435) : LT p l e s m below meth c b Γ α x RL i cells slots 1225 := by
  intro δ σ σm H locs ls h0 hR hB hS hl
  obtain ⟨hx, hb, hml, hown, hts, hK, hZ, hX, hbl⟩ := id X
  have hbA : ¬ AL s b := Nat.not_le.mpr hbl
  have hA : ∀ q, s.heap.size ≤ q → AL s q := fun _ h => h
  refine lv_aload_n hx hb dL_law_1225 rfl (lv_at hl 1 rfl) ?_
  refine lv_aload_n hx hb dL_law_1226 rfl (lv_at hl 0 rfl) ?_
  refine lv_iload_n hx hb dL_law_1227 rfl (lv_at hl 3 rfl) ?_
  refine lv_iconst (v := 1) hx hb dL_law_1228 (by decide) ?_
  refine lv_iadd hx hb dL_law_1229 ?_
  refine va_sld hx hb hX hbl hbA hS h1 dL_law_1230 ?_
  have hwp := pl δ σ σm x hR (xs (i + 1).toNatClampNeg)
  refine l_ygoi (vx_runVX (As := [.int (xs (i + 1).toNatClampNeg)]) (rest := []) ⟨hx, hb, hml, hown, hts⟩ (xt_S_night hst h0 hwp H.size) (vx_cwVW 1 hts (lw_VW q1198 q1199 q1200 q75 q1201) rfl rfl rfl (by decide +kernel) ⟨(Nat.le_of_ble_eq_true rfl), (Nat.le_of_ble_eq_true rfl)⟩) (y_preV hK hB.2.1 hB.2.2.1 hA hZ hB.1 hS 0 x h0 rfl rfl) rfl rfl hl.1 rfl (lv_room (Nat.le_of_ble_eq_true rfl)) dL_law_1231 ⟨(show _ ≤ 603072 by omega), (show _ ≤ 7262314 by omega)⟩) hB hA hS (fun r1 u H locs hk hB hS => ?_)
  obtain ⟨hwp, hE⟩ := hk
  replace h0 := hE.m h0
  obtain ⟨δ, σ⟩ := u
  refine lv_aload_n hx hb dL_law_1234 rfl (lv_at hl 2 rfl) ?_
  refine lv_aload_n hx hb dL_law_1235 rfl (lv_at hl 0 rfl) ?_
  refine lv_iload_n hx hb dL_law_1236 rfl (lv_at hl 3 rfl) ?_
  refine lv_iconst (v := 1) hx hb dL_law_1237 (by decide) ?_
  refine lv_iadd hx hb dL_law_1238 ?_
  refine va_sld hx hb hX hbl hbA hS h1 dL_law_1239 ?_
  refine l_mi (avs := [.int (xs (i + 1).toNatClampNeg)]) ⟨hx, hb, hml, hown, hts⟩ hK.1 hB hA hS (mt_night hwp) (cwV 1 hts (lw_V q1765 q1766 q1767 q79 q1768) rfl rfl rfl (by decide +kernel) ⟨(Nat.le_of_ble_eq_true rfl), (Nat.le_of_ble_eq_true rfl)⟩) rfl hl.1 rfl (Nat.le_of_ble_eq_true rfl) dL_law_1240 ⟨(show _ ≤ 603072 by omega), (show _ ≤ 7262314 by omega)⟩ (fun r2 u2 H locs hk hB hS => ?_)
  obtain ⟨eq, hR⟩ := hk
  refine lv_icmp_eq (tgt := 1435) hx hb dL_law_1243 (by decide) (fun _ => ?_) (fun c9 => absurd eq c9)
  exact W.widen (k := cells + 4659) (n := slots + 33787) (by omega) (by omega) (kk _ _ _ _ _ _ h0 hR hB hS hl)
set_option maxHeartbeats 4000000 in
set_option maxRecDepth 100000 in
theorem lc_shuts {p : Program} {l : Launch} {e : Env} {s : State} {m : MethodId} {below : List Frame} {meth : Method} {c : Code} {b L : Nat} {xs : Nat → Int32} {Γ : GA} {α : Nat → Nat} {x : Nat} {RL : XSh → XSt → MSt → Nat → Prop} (X : CL p s m meth c b L xs Γ) (hst : l.stackTraces = false) (pl : Pl_shuts RL) {i : Int32} (h1 : vp_in (i + 1) L) (h2 : vp_in (i + 2) L) (h3 : vp_in (i + 3) L) (h4 : vp_in (i + 4) L) (h5 : vp_in (i + 5) L) {cells slots : Nat} (hc : cells + 4659 ≤ 603072) (hs : slots + 33787 ≤ 7262314) (kk : LT p l e s m below meth c b Γ α x RL i (cells + 4659) (slots + 33787) 1435) : LT p l e s m below meth c b Γ α x RL i cells slots 1248 := by
  intro δ σ σm H locs ls h0 hR hB hS hl
  obtain ⟨hx, hb, hml, hown, hts, hK, hZ, hX, hbl⟩ := id X
  have hbA : ¬ AL s b := Nat.not_le.mpr hbl
  have hA : ∀ q, s.heap.size ≤ q → AL s q := fun _ h => h
  refine lv_aload_n hx hb dL_law_1248 rfl (lv_at hl 1 rfl) ?_
  have hwp := pl δ σ σm x hR
  refine l_ygoi (vx_runVX (As := []) (rest := []) ⟨hx, hb, hml, hown, hts⟩ (xt_S_shuts hst h0 hwp H.size) (vx_cwVW 0 hts (lw_VW q1117 q1118 q1119 q75 q1120) rfl rfl rfl (by decide +kernel) ⟨(Nat.le_of_ble_eq_true rfl), (Nat.le_of_ble_eq_true rfl)⟩) (y_preV hK hB.2.1 hB.2.2.1 hA hZ hB.1 hS 0 x h0 rfl rfl) rfl rfl hl.1 rfl (lv_room (Nat.le_of_ble_eq_true rfl)) dL_law_1249 ⟨(show _ ≤ 603072 by omega), (show _ ≤ 7262314 by omega)⟩) hB hA hS (fun r1 u H locs hk hB hS => ?_)
  obtain ⟨hwp, hE⟩ := hk
  replace h0 := hE.m h0
  obtain ⟨δ, σ⟩ := u
  refine lv_aload_n hx hb dL_law_1252 rfl (lv_at hl 2 rfl) ?_
  refine l_mi (avs := []) ⟨hx, hb, hml, hown, hts⟩ hK.1 hB hA hS (mt_shuts hwp) (cwV 0 hts (lw_V q1769 q1770 q1771 q79 q1772) rfl rfl rfl (by decide +kernel) ⟨(Nat.le_of_ble_eq_true rfl), (Nat.le_of_ble_eq_true rfl)⟩) rfl hl.1 rfl (Nat.le_of_ble_eq_true rfl) dL_law_1253 ⟨(show _ ≤ 603072 by omega), (show _ ≤ 7262314 by omega)⟩ (fun r2 u2 H locs hk hB hS => ?_)
  obtain ⟨eq, hR⟩ := hk
  refine lv_icmp_eq (tgt := 1435) hx hb dL_law_1256 (by decide) (fun _ => ?_) (fun c9 => absurd eq c9)
  exact W.widen (k := cells + 4659) (n := slots + 33787) (by omega) (by omega) (kk _ _ _ _ _ _ h0 hR hB hS hl)
set_option maxHeartbeats 4000000 in
set_option maxRecDepth 100000 in
theorem lc_opens {p : Program} {l : Launch} {e : Env} {s : State} {m : MethodId} {below : List Frame} {meth : Method} {c : Code} {b L : Nat} {xs : Nat → Int32} {Γ : GA} {α : Nat → Nat} {x : Nat} {RL : XSh → XSt → MSt → Nat → Prop} (X : CL p s m meth c b L xs Γ) (hst : l.stackTraces = false) (pl : Pl_opens RL) {i : Int32} (h1 : vp_in (i + 1) L) (h2 : vp_in (i + 2) L) (h3 : vp_in (i + 3) L) (h4 : vp_in (i + 4) L) (h5 : vp_in (i + 5) L) {cells slots : Nat} (hc : cells + 4659 ≤ 603072) (hs : slots + 33787 ≤ 7262314) (kk : LT p l e s m below meth c b Γ α x RL i (cells + 4659) (slots + 33787) 1435) : LT p l e s m below meth c b Γ α x RL i cells slots 1261 := by
  intro δ σ σm H locs ls h0 hR hB hS hl
  obtain ⟨hx, hb, hml, hown, hts, hK, hZ, hX, hbl⟩ := id X
  have hbA : ¬ AL s b := Nat.not_le.mpr hbl
  have hA : ∀ q, s.heap.size ≤ q → AL s q := fun _ h => h
  refine lv_aload_n hx hb dL_law_1261 rfl (lv_at hl 1 rfl) ?_
  have hwp := pl δ σ σm x hR
  refine l_goi (va_runV (As := []) (rest := []) ⟨hx, hb, hml, hown, hts⟩ (xt_S_opens h0 hwp H.size) (cwV 0 hts (lw_V q1122 q1123 q1124 q75 q1125) rfl rfl rfl (by decide +kernel) ⟨(Nat.le_of_ble_eq_true rfl), (Nat.le_of_ble_eq_true rfl)⟩) (x_preV hK hB.2.1 hB.2.2.1 hB.1 0 x h0 rfl rfl) rfl rfl hl.1 rfl (lv_room (Nat.le_of_ble_eq_true rfl)) dL_law_1262 ⟨(show _ ≤ 603072 by omega), (show _ ≤ 7262314 by omega)⟩) hB hA hS (fun r1 u H locs hk hB hS => ?_)
  obtain ⟨hwp, hE⟩ := hk
  obtain ⟨δ1, σ1⟩ := u
  have hE : δ = δ1 := Eq.symm hE
  subst hE
  refine lv_aload_n hx hb dL_law_1265 rfl (lv_at hl 2 rfl) ?_
  refine l_mi (avs := []) ⟨hx, hb, hml, hown, hts⟩ hK.1 hB hA hS (mt_opens hwp) (cwV 0 hts (lw_V q1773 q1774 q1775 q79 q1776) rfl rfl rfl (by decide +kernel) ⟨(Nat.le_of_ble_eq_true rfl), (Nat.le_of_ble_eq_true rfl)⟩) rfl hl.1 rfl (Nat.le_of_ble_eq_true rfl) dL_law_1266 ⟨(show _ ≤ 603072 by omega), (show _ ≤ 7262314 by omega)⟩ (fun r2 u2 H locs hk hB hS => ?_)
  obtain ⟨eq, hR⟩ := hk
  refine lv_icmp_eq (tgt := 1435) hx hb dL_law_1269 (by decide) (fun _ => ?_) (fun c9 => absurd eq c9)
  exact W.widen (k := cells + 4659) (n := slots + 33787) (by omega) (by omega) (kk _ _ _ _ _ _ h0 hR hB hS hl)
set_option maxHeartbeats 4000000 in
set_option maxRecDepth 100000 in
theorem lc_years {p : Program} {l : Launch} {e : Env} {s : State} {m : MethodId} {below : List Frame} {meth : Method} {c : Code} {b L : Nat} {xs : Nat → Int32} {Γ : GA} {α : Nat → Nat} {x : Nat} {RL : XSh → XSt → MSt → Nat → Prop} (X : CL p s m meth c b L xs Γ) (hst : l.stackTraces = false) (pl : Pl_years RL) {i : Int32} (h1 : vp_in (i + 1) L) (h2 : vp_in (i + 2) L) (h3 : vp_in (i + 3) L) (h4 : vp_in (i + 4) L) (h5 : vp_in (i + 5) L) {cells slots : Nat} (hc : cells + 4659 ≤ 603072) (hs : slots + 33787 ≤ 7262314) (kk : LT p l e s m below meth c b Γ α x RL i (cells + 4659) (slots + 33787) 1435) : LT p l e s m below meth c b Γ α x RL i cells slots 1274 := by
  intro δ σ σm H locs ls h0 hR hB hS hl
  obtain ⟨hx, hb, hml, hown, hts, hK, hZ, hX, hbl⟩ := id X
  have hbA : ¬ AL s b := Nat.not_le.mpr hbl
  have hA : ∀ q, s.heap.size ≤ q → AL s q := fun _ h => h
  refine lv_aload_n hx hb dL_law_1274 rfl (lv_at hl 1 rfl) ?_
  refine lv_aload_n hx hb dL_law_1275 rfl (lv_at hl 0 rfl) ?_
  refine lv_iload_n hx hb dL_law_1276 rfl (lv_at hl 3 rfl) ?_
  refine lv_iconst (v := 1) hx hb dL_law_1277 (by decide) ?_
  refine lv_iadd hx hb dL_law_1278 ?_
  refine va_sld hx hb hX hbl hbA hS h1 dL_law_1279 ?_
  have hwp := pl δ σ σm x hR (xs (i + 1).toNatClampNeg)
  refine l_ygoi (vx_runVX (As := [.int (xs (i + 1).toNatClampNeg)]) (rest := []) ⟨hx, hb, hml, hown, hts⟩ (xt_S_years hst h0 hwp H.size) (vx_cwVW 1 hts (lw_VW q1202 q1203 q1204 q75 q1205) rfl rfl rfl (by decide +kernel) ⟨(Nat.le_of_ble_eq_true rfl), (Nat.le_of_ble_eq_true rfl)⟩) (y_preV hK hB.2.1 hB.2.2.1 hA hZ hB.1 hS 0 x h0 rfl rfl) rfl rfl hl.1 rfl (lv_room (Nat.le_of_ble_eq_true rfl)) dL_law_1280 ⟨(show _ ≤ 603072 by omega), (show _ ≤ 7262314 by omega)⟩) hB hA hS (fun r1 u H locs hk hB hS => ?_)
  obtain ⟨hwp, hE⟩ := hk
  replace h0 := hE.m h0
  obtain ⟨δ, σ⟩ := u
  refine lv_aload_n hx hb dL_law_1283 rfl (lv_at hl 2 rfl) ?_
  refine lv_aload_n hx hb dL_law_1284 rfl (lv_at hl 0 rfl) ?_
  refine lv_iload_n hx hb dL_law_1285 rfl (lv_at hl 3 rfl) ?_
  refine lv_iconst (v := 1) hx hb dL_law_1286 (by decide) ?_
  refine lv_iadd hx hb dL_law_1287 ?_
  refine va_sld hx hb hX hbl hbA hS h1 dL_law_1288 ?_
  refine l_mi (avs := [.int (xs (i + 1).toNatClampNeg)]) ⟨hx, hb, hml, hown, hts⟩ hK.1 hB hA hS (mt_years hwp) (cwV 1 hts (lw_V q1781 q1782 q1783 q79 q1784) rfl rfl rfl (by decide +kernel) ⟨(Nat.le_of_ble_eq_true rfl), (Nat.le_of_ble_eq_true rfl)⟩) rfl hl.1 rfl (Nat.le_of_ble_eq_true rfl) dL_law_1289 ⟨(show _ ≤ 603072 by omega), (show _ ≤ 7262314 by omega)⟩ (fun r2 u2 H locs hk hB hS => ?_)
  obtain ⟨eq, hR⟩ := hk
  refine lv_icmp_eq (tgt := 1435) hx hb dL_law_1292 (by decide) (fun _ => ?_) (fun c9 => absurd eq c9)
  exact W.widen (k := cells + 4659) (n := slots + 33787) (by omega) (by omega) (kk _ _ _ _ _ _ h0 hR hB hS hl)
set_option maxHeartbeats 4000000 in
set_option maxRecDepth 100000 in
theorem lc_seed {p : Program} {l : Launch} {e : Env} {s : State} {m : MethodId} {below : List Frame} {meth : Method} {c : Code} {b L : Nat} {xs : Nat → Int32} {Γ : GA} {α : Nat → Nat} {x : Nat} {RL : XSh → XSt → MSt → Nat → Prop} (X : CL p s m meth c b L xs Γ) (hst : l.stackTraces = false) (pl : Pl_seed RL) {i : Int32} (h1 : vp_in (i + 1) L) (h2 : vp_in (i + 2) L) (h3 : vp_in (i + 3) L) (h4 : vp_in (i + 4) L) (h5 : vp_in (i + 5) L) {cells slots : Nat} (hc : cells + 4659 ≤ 603072) (hs : slots + 33787 ≤ 7262314) (kk : LT p l e s m below meth c b Γ α x RL i (cells + 4659) (slots + 33787) 1435) : LT p l e s m below meth c b Γ α x RL i cells slots 1297 := by
  intro δ σ σm H locs ls h0 hR hB hS hl
  obtain ⟨hx, hb, hml, hown, hts, hK, hZ, hX, hbl⟩ := id X
  have hbA : ¬ AL s b := Nat.not_le.mpr hbl
  have hA : ∀ q, s.heap.size ≤ q → AL s q := fun _ h => h
  refine lv_aload_n hx hb dL_law_1297 rfl (lv_at hl 1 rfl) ?_
  refine lv_aload_n hx hb dL_law_1298 rfl (lv_at hl 0 rfl) ?_
  refine lv_iload_n hx hb dL_law_1299 rfl (lv_at hl 3 rfl) ?_
  refine lv_iconst (v := 1) hx hb dL_law_1300 (by decide) ?_
  refine lv_iadd hx hb dL_law_1301 ?_
  refine va_sld hx hb hX hbl hbA hS h1 dL_law_1302 ?_
  have hwp := pl δ σ σm x hR (xs (i + 1).toNatClampNeg)
  refine l_goi (va_runV (As := [.int (xs (i + 1).toNatClampNeg)]) (rest := []) ⟨hx, hb, hml, hown, hts⟩ (xt_S_seed h0 hwp H.size) (cwV 1 hts (lw_V q1234 q1235 q1236 q75 q1237) rfl rfl rfl (by decide +kernel) ⟨(Nat.le_of_ble_eq_true rfl), (Nat.le_of_ble_eq_true rfl)⟩) (x_preV hK hB.2.1 hB.2.2.1 hB.1 0 x h0 rfl rfl) rfl rfl hl.1 rfl (lv_room (Nat.le_of_ble_eq_true rfl)) dL_law_1303 ⟨(show _ ≤ 603072 by omega), (show _ ≤ 7262314 by omega)⟩) hB hA hS (fun r1 u H locs hk hB hS => ?_)
  obtain ⟨hwp, hE⟩ := hk
  obtain ⟨δ1, σ1⟩ := u
  have hE : δ = δ1 := Eq.symm hE
  subst hE
  refine lv_aload_n hx hb dL_law_1306 rfl (lv_at hl 2 rfl) ?_
  refine lv_aload_n hx hb dL_law_1307 rfl (lv_at hl 0 rfl) ?_
  refine lv_iload_n hx hb dL_law_1308 rfl (lv_at hl 3 rfl) ?_
  refine lv_iconst (v := 1) hx hb dL_law_1309 (by decide) ?_
  refine lv_iadd hx hb dL_law_1310 ?_
  refine va_sld hx hb hX hbl hbA hS h1 dL_law_1311 ?_
  refine l_mi (avs := [.int (xs (i + 1).toNatClampNeg)]) ⟨hx, hb, hml, hown, hts⟩ hK.1 hB hA hS (mt_seed hwp) (cwV 1 hts (lw_V q1790 q1791 q1792 q79 q1793) rfl rfl rfl (by decide +kernel) ⟨(Nat.le_of_ble_eq_true rfl), (Nat.le_of_ble_eq_true rfl)⟩) rfl hl.1 rfl (Nat.le_of_ble_eq_true rfl) dL_law_1312 ⟨(show _ ≤ 603072 by omega), (show _ ≤ 7262314 by omega)⟩ (fun r2 u2 H locs hk hB hS => ?_)
  obtain ⟨eq, hR⟩ := hk
  refine lv_icmp_eq (tgt := 1435) hx hb dL_law_1315 (by decide) (fun _ => ?_) (fun c9 => absurd eq c9)
  exact W.widen (k := cells + 4659) (n := slots + 33787) (by omega) (by omega) (kk _ _ _ _ _ _ h0 hR hB hS hl)
set_option maxHeartbeats 4000000 in
set_option maxRecDepth 100000 in
theorem lc_act {p : Program} {l : Launch} {e : Env} {s : State} {m : MethodId} {below : List Frame} {meth : Method} {c : Code} {b L : Nat} {xs : Nat → Int32} {Γ : GA} {α : Nat → Nat} {x : Nat} {RL : XSh → XSt → MSt → Nat → Prop} (X : CL p s m meth c b L xs Γ) (hst : l.stackTraces = false) (pl : Pl_act RL) {i : Int32} (h1 : vp_in (i + 1) L) (h2 : vp_in (i + 2) L) (h3 : vp_in (i + 3) L) (h4 : vp_in (i + 4) L) (h5 : vp_in (i + 5) L) {cells slots : Nat} (hc : cells + 4659 ≤ 603072) (hs : slots + 33787 ≤ 7262314) (kk : LT p l e s m below meth c b Γ α x RL i (cells + 4659) (slots + 33787) 1435) : LT p l e s m below meth c b Γ α x RL i cells slots 1320 := by
  intro δ σ σm H locs ls h0 hR hB hS hl
  obtain ⟨hx, hb, hml, hown, hts, hK, hZ, hX, hbl⟩ := id X
  have hbA : ¬ AL s b := Nat.not_le.mpr hbl
  have hA : ∀ q, s.heap.size ≤ q → AL s q := fun _ h => h
  refine lv_aload_n hx hb dL_law_1320 rfl (lv_at hl 1 rfl) ?_
  refine lv_aload_n hx hb dL_law_1321 rfl (lv_at hl 0 rfl) ?_
  refine lv_iload_n hx hb dL_law_1322 rfl (lv_at hl 3 rfl) ?_
  refine lv_iconst (v := 1) hx hb dL_law_1323 (by decide) ?_
  refine lv_iadd hx hb dL_law_1324 ?_
  refine va_sld hx hb hX hbl hbA hS h1 dL_law_1325 ?_
  refine lv_aload_n hx hb dL_law_1326 rfl (lv_at hl 0 rfl) ?_
  refine lv_iload_n hx hb dL_law_1327 rfl (lv_at hl 3 rfl) ?_
  refine lv_iconst (v := 2) hx hb dL_law_1328 (by decide) ?_
  refine lv_iadd hx hb dL_law_1329 ?_
  refine va_sld hx hb hX hbl hbA hS h2 dL_law_1330 ?_
  refine lv_aload_n hx hb dL_law_1331 rfl (lv_at hl 0 rfl) ?_
  refine lv_iload_n hx hb dL_law_1332 rfl (lv_at hl 3 rfl) ?_
  refine lv_iconst (v := 3) hx hb dL_law_1333 (by decide) ?_
  refine lv_iadd hx hb dL_law_1334 ?_
  refine va_sld hx hb hX hbl hbA hS h3 dL_law_1335 ?_
  have hwp := pl δ σ σm x hR (xs (i + 1).toNatClampNeg) (xs (i + 2).toNatClampNeg) (xs (i + 3).toNatClampNeg)
  refine l_goi (va_runV (As := [.int (xs (i + 1).toNatClampNeg), .int (xs (i + 2).toNatClampNeg), .int (xs (i + 3).toNatClampNeg)]) (rest := []) ⟨hx, hb, hml, hown, hts⟩ (xt_S_act h0 hwp H.size) (cwV 3 hts (lw_V q1238 q1239 q1240 q75 q1241) rfl rfl rfl (by decide +kernel) ⟨(Nat.le_of_ble_eq_true rfl), (Nat.le_of_ble_eq_true rfl)⟩) (x_preV hK hB.2.1 hB.2.2.1 hB.1 0 x h0 rfl rfl) rfl rfl hl.1 rfl (lv_room (Nat.le_of_ble_eq_true rfl)) dL_law_1336 ⟨(show _ ≤ 603072 by omega), (show _ ≤ 7262314 by omega)⟩) hB hA hS (fun r1 u H locs hk hB hS => ?_)
  obtain ⟨hwp, hE⟩ := hk
  obtain ⟨δ1, σ1⟩ := u
  have hE : δ = δ1 := Eq.symm hE
  subst hE
  refine lv_aload_n hx hb dL_law_1339 rfl (lv_at hl 2 rfl) ?_
  refine lv_aload_n hx hb dL_law_1340 rfl (lv_at hl 0 rfl) ?_
  refine lv_iload_n hx hb dL_law_1341 rfl (lv_at hl 3 rfl) ?_
  refine lv_iconst (v := 1) hx hb dL_law_1342 (by decide) ?_
  refine lv_iadd hx hb dL_law_1343 ?_
  refine va_sld hx hb hX hbl hbA hS h1 dL_law_1344 ?_
  refine lv_aload_n hx hb dL_law_1345 rfl (lv_at hl 0 rfl) ?_
  refine lv_iload_n hx hb dL_law_1346 rfl (lv_at hl 3 rfl) ?_
  refine lv_iconst (v := 2) hx hb dL_law_1347 (by decide) ?_
  refine lv_iadd hx hb dL_law_1348 ?_
  refine va_sld hx hb hX hbl hbA hS h2 dL_law_1349 ?_
  refine lv_aload_n hx hb dL_law_1350 rfl (lv_at hl 0 rfl) ?_
  refine lv_iload_n hx hb dL_law_1351 rfl (lv_at hl 3 rfl) ?_
  refine lv_iconst (v := 3) hx hb dL_law_1352 (by decide) ?_
  refine lv_iadd hx hb dL_law_1353 ?_
  refine va_sld hx hb hX hbl hbA hS h3 dL_law_1354 ?_
  refine l_mi (avs := [.int (xs (i + 1).toNatClampNeg), .int (xs (i + 2).toNatClampNeg), .int (xs (i + 3).toNatClampNeg)]) ⟨hx, hb, hml, hown, hts⟩ hK.1 hB hA hS (mt_act hwp) (cwV 3 hts (lw_V q1794 q1795 q1796 q79 q1797) rfl rfl rfl (by decide +kernel) ⟨(Nat.le_of_ble_eq_true rfl), (Nat.le_of_ble_eq_true rfl)⟩) rfl hl.1 rfl (Nat.le_of_ble_eq_true rfl) dL_law_1355 ⟨(show _ ≤ 603072 by omega), (show _ ≤ 7262314 by omega)⟩ (fun r2 u2 H locs hk hB hS => ?_)
  obtain ⟨eq, hR⟩ := hk
  refine lv_icmp_eq (tgt := 1435) hx hb dL_law_1358 (by decide) (fun _ => ?_) (fun c9 => absurd eq c9)
  exact W.widen (k := cells + 4659) (n := slots + 33787) (by omega) (by omega) (kk _ _ _ _ _ _ h0 hR hB hS hl)
set_option maxHeartbeats 4000000 in
set_option maxRecDepth 100000 in
theorem lc_trace {p : Program} {l : Launch} {e : Env} {s : State} {m : MethodId} {below : List Frame} {meth : Method} {c : Code} {b L : Nat} {xs : Nat → Int32} {Γ : GA} {α : Nat → Nat} {x : Nat} {RL : XSh → XSt → MSt → Nat → Prop} (X : CL p s m meth c b L xs Γ) (hst : l.stackTraces = false) (pl : Pl_trace RL) {i : Int32} (h1 : vp_in (i + 1) L) (h2 : vp_in (i + 2) L) (h3 : vp_in (i + 3) L) (h4 : vp_in (i + 4) L) (h5 : vp_in (i + 5) L) {cells slots : Nat} (hc : cells + 4659 ≤ 603072) (hs : slots + 33787 ≤ 7262314) (kk : LT p l e s m below meth c b Γ α x RL i (cells + 4659) (slots + 33787) 1435) : LT p l e s m below meth c b Γ α x RL i cells slots 1363 := by
  intro δ σ σm H locs ls h0 hR hB hS hl
  obtain ⟨hx, hb, hml, hown, hts, hK, hZ, hX, hbl⟩ := id X
  have hbA : ¬ AL s b := Nat.not_le.mpr hbl
  have hA : ∀ q, s.heap.size ≤ q → AL s q := fun _ h => h
  refine lv_aload_n hx hb dL_law_1363 rfl (lv_at hl 1 rfl) ?_
  refine lv_aload_n hx hb dL_law_1364 rfl (lv_at hl 0 rfl) ?_
  refine lv_iload_n hx hb dL_law_1365 rfl (lv_at hl 3 rfl) ?_
  refine lv_iconst (v := 1) hx hb dL_law_1366 (by decide) ?_
  refine lv_iadd hx hb dL_law_1367 ?_
  refine va_sld hx hb hX hbl hbA hS h1 dL_law_1368 ?_
  have hwp := pl δ σ σm x hR (xs (i + 1).toNatClampNeg)
  refine l_goi (va_runV (As := [.int (xs (i + 1).toNatClampNeg)]) (rest := []) ⟨hx, hb, hml, hown, hts⟩ (xt_S_trace h0 hwp H.size) (cwV 1 hts (lw_V q1317 q1318 q1319 q75 q1320) rfl rfl rfl (by decide +kernel) ⟨(Nat.le_of_ble_eq_true rfl), (Nat.le_of_ble_eq_true rfl)⟩) (x_preV hK hB.2.1 hB.2.2.1 hB.1 0 x h0 rfl rfl) rfl rfl hl.1 rfl (lv_room (Nat.le_of_ble_eq_true rfl)) dL_law_1369 ⟨(show _ ≤ 603072 by omega), (show _ ≤ 7262314 by omega)⟩) hB hA hS (fun r1 u H locs hk hB hS => ?_)
  obtain ⟨hwp, hE⟩ := hk
  obtain ⟨δ1, σ1⟩ := u
  cases hE
  refine lv_aload_n hx hb dL_law_1372 rfl (lv_at hl 2 rfl) ?_
  refine lv_aload_n hx hb dL_law_1373 rfl (lv_at hl 0 rfl) ?_
  refine lv_iload_n hx hb dL_law_1374 rfl (lv_at hl 3 rfl) ?_
  refine lv_iconst (v := 1) hx hb dL_law_1375 (by decide) ?_
  refine lv_iadd hx hb dL_law_1376 ?_
  refine va_sld hx hb hX hbl hbA hS h1 dL_law_1377 ?_
  refine l_mi (avs := [.int (xs (i + 1).toNatClampNeg)]) ⟨hx, hb, hml, hown, hts⟩ hK.1 hB hA hS (mt_trace hwp) (cwV 1 hts (lw_V q1814 q1815 q1816 q79 q1817) rfl rfl rfl (by decide +kernel) ⟨(Nat.le_of_ble_eq_true rfl), (Nat.le_of_ble_eq_true rfl)⟩) rfl hl.1 rfl (Nat.le_of_ble_eq_true rfl) dL_law_1378 ⟨(show _ ≤ 603072 by omega), (show _ ≤ 7262314 by omega)⟩ (fun r2 u2 H locs hk hB hS => ?_)
  obtain ⟨⟨eq, hR⟩, hu⟩ := hk
  replace hu := hu.symm
  subst hu
  refine lv_icmp_eq (tgt := 1435) hx hb dL_law_1381 (by decide) (fun _ => ?_) (fun c9 => absurd eq c9)
  exact W.widen (k := cells + 4659) (n := slots + 33787) (by omega) (by omega) (kk _ _ _ _ _ _ h0 hR hB hS hl)
set_option maxHeartbeats 4000000 in
set_option maxRecDepth 100000 in
theorem lc_image {p : Program} {l : Launch} {e : Env} {s : State} {m : MethodId} {below : List Frame} {meth : Method} {c : Code} {b L : Nat} {xs : Nat → Int32} {Γ : GA} {α : Nat → Nat} {x : Nat} {RL : XSh → XSt → MSt → Nat → Prop} (X : CL p s m meth c b L xs Γ) (hst : l.stackTraces = false) (pl : Pl_image RL) {i : Int32} (h1 : vp_in (i + 1) L) (h2 : vp_in (i + 2) L) (h3 : vp_in (i + 3) L) (h4 : vp_in (i + 4) L) (h5 : vp_in (i + 5) L) {cells slots : Nat} (hc : cells + 4659 ≤ 603072) (hs : slots + 33787 ≤ 7262314) (kk : LT p l e s m below meth c b Γ α x RL i (cells + 4659) (slots + 33787) 1435) : LT p l e s m below meth c b Γ α x RL i cells slots 1386 := by
  intro δ σ σm H locs ls h0 hR hB hS hl
  obtain ⟨hx, hb, hml, hown, hts, hK, hZ, hX, hbl⟩ := id X
  have hbA : ¬ AL s b := Nat.not_le.mpr hbl
  have hA : ∀ q, s.heap.size ≤ q → AL s q := fun _ h => h
  refine lv_aload_n hx hb dL_law_1386 rfl (lv_at hl 1 rfl) ?_
  have hwp := pl δ σ σm x hR
  refine l_ygoi (vx_runV (As := []) (rest := []) ⟨hx, hb, hml, hown, hts⟩ (xt_S_image hst h0 hwp H.size) (cwV 0 hts (lw_V q1322 q1323 q1324 q75 q1325) rfl rfl rfl (by decide +kernel) ⟨(Nat.le_of_ble_eq_true rfl), (Nat.le_of_ble_eq_true rfl)⟩) (y_preV hK hB.2.1 hB.2.2.1 hA hZ hB.1 hS 0 x h0 rfl rfl) rfl rfl hl.1 rfl (lv_room (Nat.le_of_ble_eq_true rfl)) dL_law_1387 ⟨(show _ ≤ 603072 by omega), (show _ ≤ 7262314 by omega)⟩) hB hA hS (fun r1 u H locs hk hB hS => ?_)
  obtain ⟨hwp, hE⟩ := hk
  replace h0 := hE.m h0
  obtain ⟨δ, σ⟩ := u
  refine lv_aload_n hx hb dL_law_1390 rfl (lv_at hl 2 rfl) ?_
  refine l_mi (avs := []) ⟨hx, hb, hml, hown, hts⟩ hK.1 hB hA hS (mt_image hwp) (cwV 0 hts (lw_V q1818 q1819 q1820 q79 q1821) rfl rfl rfl (by decide +kernel) ⟨(Nat.le_of_ble_eq_true rfl), (Nat.le_of_ble_eq_true rfl)⟩) rfl hl.1 rfl (Nat.le_of_ble_eq_true rfl) dL_law_1391 ⟨(show _ ≤ 603072 by omega), (show _ ≤ 7262314 by omega)⟩ (fun r2 u2 H locs hk hB hS => ?_)
  obtain ⟨eq, hR⟩ := hk
  refine lv_icmp_eq (tgt := 1435) hx hb dL_law_1394 (by decide) (fun _ => ?_) (fun c9 => absurd eq c9)
  exact W.widen (k := cells + 4659) (n := slots + 33787) (by omega) (by omega) (kk _ _ _ _ _ _ h0 hR hB hS hl)
set_option maxHeartbeats 4000000 in
set_option maxRecDepth 100000 in
theorem lc_restore {p : Program} {l : Launch} {e : Env} {s : State} {m : MethodId} {below : List Frame} {meth : Method} {c : Code} {b L : Nat} {xs : Nat → Int32} {Γ : GA} {α : Nat → Nat} {x : Nat} {RL : XSh → XSt → MSt → Nat → Prop} (X : CL p s m meth c b L xs Γ) (hst : l.stackTraces = false) (pl : Pl_restore RL) {i : Int32} (h1 : vp_in (i + 1) L) (h2 : vp_in (i + 2) L) (h3 : vp_in (i + 3) L) (h4 : vp_in (i + 4) L) (h5 : vp_in (i + 5) L) {cells slots : Nat} (hc : cells + 4659 ≤ 603072) (hs : slots + 33787 ≤ 7262314) (kk : LT p l e s m below meth c b Γ α x RL i (cells + 4659) (slots + 33787) 1435) : LT p l e s m below meth c b Γ α x RL i cells slots 1399 := by
  intro δ σ σm H locs ls h0 hR hB hS hl
  obtain ⟨hx, hb, hml, hown, hts, hK, hZ, hX, hbl⟩ := id X
  have hbA : ¬ AL s b := Nat.not_le.mpr hbl
  have hA : ∀ q, s.heap.size ≤ q → AL s q := fun _ h => h
  refine lv_aload_n hx hb dL_law_1399 rfl (lv_at hl 1 rfl) ?_
  have hwp := pl δ σ σm x hR
  refine l_ygoi (vx_runVX (As := []) (rest := []) ⟨hx, hb, hml, hown, hts⟩ (xt_S_restore hst h0 hwp H.size) (vx_cwVW 0 hts (lw_VW q1326 q1327 q1328 q75 q1329) rfl rfl rfl (by decide +kernel) ⟨(Nat.le_of_ble_eq_true rfl), (Nat.le_of_ble_eq_true rfl)⟩) (y_preV hK hB.2.1 hB.2.2.1 hA hZ hB.1 hS 0 x h0 rfl rfl) rfl rfl hl.1 rfl (lv_room (Nat.le_of_ble_eq_true rfl)) dL_law_1400 ⟨(show _ ≤ 603072 by omega), (show _ ≤ 7262314 by omega)⟩) hB hA hS (fun r1 u H locs hk hB hS => ?_)
  obtain ⟨hwp, hE⟩ := hk
  replace h0 := hE.m h0
  obtain ⟨δ, σ⟩ := u
  refine lv_aload_n hx hb dL_law_1403 rfl (lv_at hl 2 rfl) ?_
  refine l_mi (avs := []) ⟨hx, hb, hml, hown, hts⟩ hK.1 hB hA hS (mt_restore hwp) (cwV 0 hts (lw_V q1822 q1823 q1824 q79 q1825) rfl rfl rfl (by decide +kernel) ⟨(Nat.le_of_ble_eq_true rfl), (Nat.le_of_ble_eq_true rfl)⟩) rfl hl.1 rfl (Nat.le_of_ble_eq_true rfl) dL_law_1404 ⟨(show _ ≤ 603072 by omega), (show _ ≤ 7262314 by omega)⟩ (fun r2 u2 H locs hk hB hS => ?_)
  obtain ⟨eq, hR⟩ := hk
  refine lv_icmp_eq (tgt := 1435) hx hb dL_law_1407 (by decide) (fun _ => ?_) (fun c9 => absurd eq c9)
  exact W.widen (k := cells + 4659) (n := slots + 33787) (by omega) (by omega) (kk _ _ _ _ _ _ h0 hR hB hS hl)
set_option maxHeartbeats 4000000 in
set_option maxRecDepth 100000 in
theorem lc_status {p : Program} {l : Launch} {e : Env} {s : State} {m : MethodId} {below : List Frame} {meth : Method} {c : Code} {b L : Nat} {xs : Nat → Int32} {Γ : GA} {α : Nat → Nat} {x : Nat} {RL : XSh → XSt → MSt → Nat → Prop} (X : CL p s m meth c b L xs Γ) (hst : l.stackTraces = false) (pl : Pl_status RL) {i : Int32} (h1 : vp_in (i + 1) L) (h2 : vp_in (i + 2) L) (h3 : vp_in (i + 3) L) (h4 : vp_in (i + 4) L) (h5 : vp_in (i + 5) L) {cells slots : Nat} (hc : cells + 4659 ≤ 603072) (hs : slots + 33787 ≤ 7262314) (kk : LT p l e s m below meth c b Γ α x RL i (cells + 4659) (slots + 33787) 1435) : LT p l e s m below meth c b Γ α x RL i cells slots 1412 := by
  intro δ σ σm H locs ls h0 hR hB hS hl
  obtain ⟨hx, hb, hml, hown, hts, hK, hZ, hX, hbl⟩ := id X
  have hbA : ¬ AL s b := Nat.not_le.mpr hbl
  have hA : ∀ q, s.heap.size ≤ q → AL s q := fun _ h => h
  refine lv_aload_n hx hb dL_law_1412 rfl (lv_at hl 1 rfl) ?_
  refine lv_aload_n hx hb dL_law_1413 rfl (lv_at hl 0 rfl) ?_
  refine lv_iload_n hx hb dL_law_1414 rfl (lv_at hl 3 rfl) ?_
  refine lv_iconst (v := 1) hx hb dL_law_1415 (by decide) ?_
  refine lv_iadd hx hb dL_law_1416 ?_
  refine va_sld hx hb hX hbl hbA hS h1 dL_law_1417 ?_
  have hwp := pl δ σ σm x hR (xs (i + 1).toNatClampNeg)
  refine l_goi (va_runV (As := [.int (xs (i + 1).toNatClampNeg)]) (rest := []) ⟨hx, hb, hml, hown, hts⟩ (xt_S_status h0 hwp H.size) (cwV 1 hts (lw_V q1334 q1335 q1336 q75 q1337) rfl rfl rfl (by decide +kernel) ⟨(Nat.le_of_ble_eq_true rfl), (Nat.le_of_ble_eq_true rfl)⟩) (x_preV hK hB.2.1 hB.2.2.1 hB.1 0 x h0 rfl rfl) rfl rfl hl.1 rfl (lv_room (Nat.le_of_ble_eq_true rfl)) dL_law_1418 ⟨(show _ ≤ 603072 by omega), (show _ ≤ 7262314 by omega)⟩) hB hA hS (fun r1 u H locs hk hB hS => ?_)
  obtain ⟨hwp, hE⟩ := hk
  obtain ⟨δ1, σ1⟩ := u
  cases hE
  refine lv_aload_n hx hb dL_law_1421 rfl (lv_at hl 2 rfl) ?_
  refine lv_aload_n hx hb dL_law_1422 rfl (lv_at hl 0 rfl) ?_
  refine lv_iload_n hx hb dL_law_1423 rfl (lv_at hl 3 rfl) ?_
  refine lv_iconst (v := 1) hx hb dL_law_1424 (by decide) ?_
  refine lv_iadd hx hb dL_law_1425 ?_
  refine va_sld hx hb hX hbl hbA hS h1 dL_law_1426 ?_
  refine l_mi (avs := [.int (xs (i + 1).toNatClampNeg)]) ⟨hx, hb, hml, hown, hts⟩ hK.1 hB hA hS (mt_status hwp) (cwV 1 hts (lw_V q1826 q1827 q1828 q79 q1829) rfl rfl rfl (by decide +kernel) ⟨(Nat.le_of_ble_eq_true rfl), (Nat.le_of_ble_eq_true rfl)⟩) rfl hl.1 rfl (Nat.le_of_ble_eq_true rfl) dL_law_1427 ⟨(show _ ≤ 603072 by omega), (show _ ≤ 7262314 by omega)⟩ (fun r2 u2 H locs hk hB hS => ?_)
  obtain ⟨⟨eq, hR⟩, hu⟩ := hk
  replace hu := hu.symm
  subst hu
  refine lv_icmp_eq (tgt := 1435) hx hb dL_law_1430 (by decide) (fun _ => ?_) (fun c9 => absurd eq c9)
  exact W.widen (k := cells + 4659) (n := slots + 33787) (by omega) (by omega) (kk _ _ _ _ _ _ h0 hR hB hS hl)

