set_option maxHeartbeats 4000000 in
set_option maxRecDepth 100000 in
theorem l_switch {p : Program} {l : Launch} {e : Env} {s : State} {m : MethodId} {below : List Frame} {meth : Method} {c : Code} {b L : Nat} {xs : Nat → Int32} {Γ : GA} {α : Nat → Nat} {x : Nat} {RL : XSh → XSt → MSt → Nat → Prop} (X : CL p s m meth c b L xs Γ) (hst : l.stackTraces = false) (PL : Pl RL) {i : Int32} (h0 : vp_in i L) (h1 : vp_in (i + 1) L) (h2 : vp_in (i + 2) L) (h3 : vp_in (i + 3) L) (h4 : vp_in (i + 4) L) (h5 : vp_in (i + 5) L) {cells slots : Nat} (hc : cells + 4659 ≤ 603072) (hs : slots + 33787 ≤ 7262314) (kk : LT p l e s m below meth c b Γ α x RL i (cells + 4659) (slots + 33787) 1435) : LT p l e s m below meth c b Γ α x RL i cells slots 27 := by
  intro δ σ σm H locs ls g0 hR hB hS hl
  obtain ⟨hx, hb, hml, hown, hts, hK, hZ, hX, hbl⟩ := id X
  have hbA : ¬ AL s b := Nat.not_le.mpr hbl
  refine lv_aload_n hx hb dL_law_27 rfl (lv_at hl 0 rfl) ?_
  refine lv_iload_n hx hb dL_law_28 rfl (lv_at hl 3 rfl) ?_
  refine va_sld hx hb hX hbl hbA hS h0 dL_law_29 ?_
  refine lv_bipush (v := 63) hx hb dL_law_30 (by decide) ?_
  refine lv_iand hx hb dL_law_32 ?_
  obtain ⟨o, eo⟩ : ∃ o, o = xs i.toNatClampNeg &&& 63 := ⟨_, rfl⟩
  rw [← eo]
  by_cases c1 : (o < 0 ∨ 41 < o)
  · refine lv_tableOut (tgt := 1435) hx hb dL_law_33 (sw_out c1) (by decide) ?_
    exact W.widen (k := cells + 4659) (n := slots + 33787) (by omega) (by omega) (kk δ σ σm H locs ls g0 hR hB hS hl)
  · obtain ⟨j, hj, ej⟩ := sw_of (n := 41) (by decide) c1
    match j, hj, ej with
    | 0, _, ej =>
      have ej : o = 0 := ej
      refine lv_tableIn (off := 183) (tgt := 216) hx hb dL_law_33 (by rw [ej]; decide) (by rw [ej]; decide) (by rw [ej]; rfl) (by decide) ?_
      exact lc_row X hst PL.1 h1 h2 h3 h4 h5 hc hs kk δ σ σm H locs ls g0 hR hB hS hl
    | 1, _, ej =>
      have ej : o = 1 := ej
      refine lv_tableIn (off := 226) (tgt := 259) hx hb dL_law_33 (by rw [ej]; decide) (by rw [ej]; decide) (by rw [ej]; rfl) (by decide) ?_
      exact lc_set X hst PL.2.1 h1 h2 h3 h4 h5 hc hs kk δ σ σm H locs ls g0 hR hB hS hl
    | 2, _, ej =>
      have ej : o = 2 := ej
      refine lv_tableIn (off := 299) (tgt := 332) hx hb dL_law_33 (by rw [ej]; decide) (by rw [ej]; decide) (by rw [ej]; rfl) (by decide) ?_
      exact lc_copy X hst PL.2.2.1 h1 h2 h3 h4 h5 hc hs kk δ σ σm H locs ls g0 hR hB hS hl
    | 3, _, ej =>
      have ej : o = 3 := ej
      refine lv_tableIn (off := 362) (tgt := 395) hx hb dL_law_33 (by rw [ej]; decide) (by rw [ej]; decide) (by rw [ej]; rfl) (by decide) ?_
      exact lc_element X hst PL.2.2.2.1 h1 h2 h3 h4 h5 hc hs kk δ σ σm H locs ls g0 hR hB hS hl
    | 4, _, ej =>
      have ej : o = 4 := ej
      refine lv_tableIn (off := 396) (tgt := 429) hx hb dL_law_33 (by rw [ej]; decide) (by rw [ej]; decide) (by rw [ej]; rfl) (by decide) ?_
      exact lc_show X hst PL.2.2.2.2.1 h1 h2 h3 h4 h5 hc hs kk δ σ σm H locs ls g0 hR hB hS hl
    | 5, _, ej =>
      have ej : o = 5 := ej
      refine lv_tableIn (off := 429) (tgt := 462) hx hb dL_law_33 (by rw [ej]; decide) (by rw [ej]; decide) (by rw [ej]; rfl) (by decide) ?_
      exact lc_holds X hst PL.2.2.2.2.2.1 h1 h2 h3 h4 h5 hc hs kk δ σ σm H locs ls g0 hR hB hS hl
    | 6, _, ej =>
      have ej : o = 6 := ej
      refine lv_tableIn (off := 452) (tgt := 485) hx hb dL_law_33 (by rw [ej]; decide) (by rw [ej]; decide) (by rw [ej]; rfl) (by decide) ?_
      exact lc_says X hst PL.2.2.2.2.2.2.1 h1 h2 h3 h4 h5 hc hs kk δ σ σm H locs ls g0 hR hB hS hl
    | 7, _, ej =>
      have ej : o = 7 := ej
      refine lv_tableIn (off := 485) (tgt := 518) hx hb dL_law_33 (by rw [ej]; decide) (by rw [ej]; decide) (by rw [ej]; rfl) (by decide) ?_
      exact lc_thing X hst PL.2.2.2.2.2.2.2.1 h1 h2 h3 h4 h5 hc hs kk δ σ σm H locs ls g0 hR hB hS hl
    | 8, _, ej =>
      have ej : o = 8 := ej
      refine lv_tableIn (off := 548) (tgt := 581) hx hb dL_law_33 (by rw [ej]; decide) (by rw [ej]; decide) (by rw [ej]; rfl) (by decide) ?_
      exact lc_thingOf X hst PL.2.2.2.2.2.2.2.2.1 h1 h2 h3 h4 h5 hc hs kk δ σ σm H locs ls g0 hR hB hS hl
    | 9, _, ej =>
      have ej : o = 9 := ej
      refine lv_tableIn (off := 581) (tgt := 614) hx hb dL_law_33 (by rw [ej]; decide) (by rw [ej]; decide) (by rw [ej]; rfl) (by decide) ?_
      exact lc_height X hst PL.2.2.2.2.2.2.2.2.2.1 h1 h2 h3 h4 h5 hc hs kk δ σ σm H locs ls g0 hR hB hS hl
    | 10, _, ej =>
      have ej : o = 10 := ej
      refine lv_tableIn (off := 614) (tgt := 647) hx hb dL_law_33 (by rw [ej]; decide) (by rw [ej]; decide) (by rw [ej]; rfl) (by decide) ?_
      exact lc_ask X hst PL.2.2.2.2.2.2.2.2.2.2.1 h1 h2 h3 h4 h5 hc hs kk δ σ σm H locs ls g0 hR hB hS hl
    | 11, _, ej =>
      have ej : o = 11 := ej
      refine lv_tableIn (off := 647) (tgt := 680) hx hb dL_law_33 (by rw [ej]; decide) (by rw [ej]; decide) (by rw [ej]; rfl) (by decide) ?_
      exact lc_shut X hst PL.2.2.2.2.2.2.2.2.2.2.2.1 h1 h2 h3 h4 h5 hc hs kk δ σ σm H locs ls g0 hR hB hS hl
    | 12, _, ej =>
      have ej : o = 12 := ej
      refine lv_tableIn (off := 706) (tgt := 739) hx hb dL_law_33 (by rw [ej]; decide) (by rw [ej]; decide) (by rw [ej]; rfl) (by decide) ?_
      exact lc_draw X hst PL.2.2.2.2.2.2.2.2.2.2.2.2.1 h1 h2 h3 h4 h5 hc hs kk δ σ σm H locs ls g0 hR hB hS hl
    | 13, _, ej =>
      have ej : o = 13 := ej
      refine lv_tableIn (off := 755) (tgt := 788) hx hb dL_law_33 (by rw [ej]; decide) (by rw [ej]; decide) (by rw [ej]; rfl) (by decide) ?_
      exact lc_ground X hst PL.2.2.2.2.2.2.2.2.2.2.2.2.2.1 h1 h2 h3 h4 h5 hc hs kk δ σ σm H locs ls g0 hR hB hS hl
    | 14, _, ej =>
      have ej : o = 14 := ej
      refine lv_tableIn (off := 778) (tgt := 811) hx hb dL_law_33 (by rw [ej]; decide) (by rw [ej]; decide) (by rw [ej]; rfl) (by decide) ?_
      exact lc_fault X hst PL.2.2.2.2.2.2.2.2.2.2.2.2.2.2.1 h1 h2 h3 h4 h5 hc hs kk δ σ σm H locs ls g0 hR hB hS hl
    | 15, _, ej =>
      have ej : o = 15 := ej
      refine lv_tableIn (off := 791) (tgt := 824) hx hb dL_law_33 (by rw [ej]; decide) (by rw [ej]; decide) (by rw [ej]; rfl) (by decide) ?_
      exact lc_sees X hst PL.2.2.2.2.2.2.2.2.2.2.2.2.2.2.2.1 h1 h2 h3 h4 h5 hc hs kk δ σ σm H locs ls g0 hR hB hS hl
    | 16, _, ej =>
      have ej : o = 16 := ej
      refine lv_tableIn (off := 834) (tgt := 867) hx hb dL_law_33 (by rw [ej]; decide) (by rw [ej]; decide) (by rw [ej]; rfl) (by decide) ?_
      exact lc_bars X hst PL.2.2.2.2.2.2.2.2.2.2.2.2.2.2.2.2.1 h1 h2 h3 h4 h5 hc hs kk δ σ σm H locs ls g0 hR hB hS hl
    | 17, _, ej =>
      have ej : o = 17 := ej
      refine lv_tableIn (off := 867) (tgt := 900) hx hb dL_law_33 (by rw [ej]; decide) (by rw [ej]; decide) (by rw [ej]; rfl) (by decide) ?_
      exact lc_seers X hst PL.2.2.2.2.2.2.2.2.2.2.2.2.2.2.2.2.2.1 h1 h2 h3 h4 h5 hc hs kk δ σ σm H locs ls g0 hR hB hS hl
    | 18, _, ej =>
      have ej : o = 18 := ej
      refine lv_tableIn (off := 890) (tgt := 923) hx hb dL_law_33 (by rw [ej]; decide) (by rw [ej]; decide) (by rw [ej]; rfl) (by decide) ?_
      exact lc_right X hst PL.2.2.2.2.2.2.2.2.2.2.2.2.2.2.2.2.2.2.1 h1 h2 h3 h4 h5 hc hs kk δ σ σm H locs ls g0 hR hB hS hl
    | 19, _, ej =>
      have ej : o = 19 := ej
      refine lv_tableIn (off := 903) (tgt := 936) hx hb dL_law_33 (by rw [ej]; decide) (by rw [ej]; decide) (by rw [ej]; rfl) (by decide) ?_
      exact lc_first X hst PL.2.2.2.2.2.2.2.2.2.2.2.2.2.2.2.2.2.2.2.1 h1 h2 h3 h4 h5 hc hs kk δ σ σm H locs ls g0 hR hB hS hl
    | 20, _, ej =>
      have ej : o = 20 := ej
      refine lv_tableIn (off := 916) (tgt := 949) hx hb dL_law_33 (by rw [ej]; decide) (by rw [ej]; decide) (by rw [ej]; rfl) (by decide) ?_
      exact lc_cost X hst PL.2.2.2.2.2.2.2.2.2.2.2.2.2.2.2.2.2.2.2.2.1 h1 h2 h3 h4 h5 hc hs kk δ σ σm H locs ls g0 hR hB hS hl
    | 21, _, ej =>
      have ej : o = 21 := ej
      refine lv_tableIn (off := 949) (tgt := 982) hx hb dL_law_33 (by rw [ej]; decide) (by rw [ej]; decide) (by rw [ej]; rfl) (by decide) ?_
      exact lc_cheapest X hst PL.2.2.2.2.2.2.2.2.2.2.2.2.2.2.2.2.2.2.2.2.2.1 h1 h2 h3 h4 h5 hc hs kk δ σ σm H locs ls g0 hR hB hS hl
    | 22, _, ej =>
      have ej : o = 22 := ej
      refine lv_tableIn (off := 972) (tgt := 1005) hx hb dL_law_33 (by rw [ej]; decide) (by rw [ej]; decide) (by rw [ej]; rfl) (by decide) ?_
      exact lc_keeps X hst PL.2.2.2.2.2.2.2.2.2.2.2.2.2.2.2.2.2.2.2.2.2.2.1 h1 h2 h3 h4 h5 hc hs kk δ σ σm H locs ls g0 hR hB hS hl
    | 23, _, ej =>
      have ej : o = 23 := ej
      refine lv_tableIn (off := 995) (tgt := 1028) hx hb dL_law_33 (by rw [ej]; decide) (by rw [ej]; decide) (by rw [ej]; rfl) (by decide) ?_
      exact lc_curtains X hst PL.2.2.2.2.2.2.2.2.2.2.2.2.2.2.2.2.2.2.2.2.2.2.2.1 h1 h2 h3 h4 h5 hc hs kk δ σ σm H locs ls g0 hR hB hS hl
    | 24, _, ej =>
      have ej : o = 24 := ej
      refine lv_tableIn (off := 1018) (tgt := 1051) hx hb dL_law_33 (by rw [ej]; decide) (by rw [ej]; decide) (by rw [ej]; rfl) (by decide) ?_
      exact lc_newly X hst PL.2.2.2.2.2.2.2.2.2.2.2.2.2.2.2.2.2.2.2.2.2.2.2.2.1 h1 h2 h3 h4 h5 hc hs kk δ σ σm H locs ls g0 hR hB hS hl
    | 25, _, ej =>
      have ej : o = 25 := ej
      refine lv_tableIn (off := 1041) (tgt := 1074) hx hb dL_law_33 (by rw [ej]; decide) (by rw [ej]; decide) (by rw [ej]; rfl) (by decide) ?_
      exact lc_storey X hst PL.2.2.2.2.2.2.2.2.2.2.2.2.2.2.2.2.2.2.2.2.2.2.2.2.2.1 h1 h2 h3 h4 h5 hc hs kk δ σ σm H locs ls g0 hR hB hS hl
    | 26, _, ej =>
      have ej : o = 26 := ej
      refine lv_tableIn (off := 1064) (tgt := 1097) hx hb dL_law_33 (by rw [ej]; decide) (by rw [ej]; decide) (by rw [ej]; rfl) (by decide) ?_
      exact lc_blinded X hst PL.2.2.2.2.2.2.2.2.2.2.2.2.2.2.2.2.2.2.2.2.2.2.2.2.2.2.1 h1 h2 h3 h4 h5 hc hs kk δ σ σm H locs ls g0 hR hB hS hl
    | 27, _, ej =>
      have ej : o = 27 := ej
      refine lv_tableIn (off := 1087) (tgt := 1120) hx hb dL_law_33 (by rw [ej]; decide) (by rw [ej]; decide) (by rw [ej]; rfl) (by decide) ?_
      exact lc_felled X hst PL.2.2.2.2.2.2.2.2.2.2.2.2.2.2.2.2.2.2.2.2.2.2.2.2.2.2.2.1 h1 h2 h3 h4 h5 hc hs kk δ σ σm H locs ls g0 hR hB hS hl
    | 28, _, ej =>
      have ej : o = 28 := ej
      refine lv_tableIn (off := 1110) (tgt := 1143) hx hb dL_law_33 (by rw [ej]; decide) (by rw [ej]; decide) (by rw [ej]; rfl) (by decide) ?_
      exact lc_pairs X hst PL.2.2.2.2.2.2.2.2.2.2.2.2.2.2.2.2.2.2.2.2.2.2.2.2.2.2.2.2.1 h1 h2 h3 h4 h5 hc hs kk δ σ σm H locs ls g0 hR hB hS hl
    | 29, _, ej =>
      have ej : o = 29 := ej
      refine lv_tableIn (off := 1123) (tgt := 1156) hx hb dL_law_33 (by rw [ej]; decide) (by rw [ej]; decide) (by rw [ej]; rfl) (by decide) ?_
      exact lc_back X hst PL.2.2.2.2.2.2.2.2.2.2.2.2.2.2.2.2.2.2.2.2.2.2.2.2.2.2.2.2.2.1 h1 h2 h3 h4 h5 hc hs kk δ σ σm H locs ls g0 hR hB hS hl
    | 30, _, ej =>
      have ej : o = 30 := ej
      refine lv_tableIn (off := 1146) (tgt := 1179) hx hb dL_law_33 (by rw [ej]; decide) (by rw [ej]; decide) (by rw [ej]; rfl) (by decide) ?_
      exact lc_most X hst PL.2.2.2.2.2.2.2.2.2.2.2.2.2.2.2.2.2.2.2.2.2.2.2.2.2.2.2.2.2.2.1 h1 h2 h3 h4 h5 hc hs kk δ σ σm H locs ls g0 hR hB hS hl
    | 31, _, ej =>
      have ej : o = 31 := ej
      refine lv_tableIn (off := 1159) (tgt := 1192) hx hb dL_law_33 (by rw [ej]; decide) (by rw [ej]; decide) (by rw [ej]; rfl) (by decide) ?_
      exact lc_list X hst PL.2.2.2.2.2.2.2.2.2.2.2.2.2.2.2.2.2.2.2.2.2.2.2.2.2.2.2.2.2.2.2.1 h1 h2 h3 h4 h5 hc hs kk δ σ σm H locs ls g0 hR hB hS hl
    | 32, _, ej =>
      have ej : o = 32 := ej
      refine lv_tableIn (off := 1192) (tgt := 1225) hx hb dL_law_33 (by rw [ej]; decide) (by rw [ej]; decide) (by rw [ej]; rfl) (by decide) ?_
      exact lc_night X hst PL.2.2.2.2.2.2.2.2.2.2.2.2.2.2.2.2.2.2.2.2.2.2.2.2.2.2.2.2.2.2.2.2.1 h1 h2 h3 h4 h5 hc hs kk δ σ σm H locs ls g0 hR hB hS hl
    | 33, _, ej =>
      have ej : o = 33 := ej
      refine lv_tableIn (off := 1215) (tgt := 1248) hx hb dL_law_33 (by rw [ej]; decide) (by rw [ej]; decide) (by rw [ej]; rfl) (by decide) ?_
      exact lc_shuts X hst PL.2.2.2.2.2.2.2.2.2.2.2.2.2.2.2.2.2.2.2.2.2.2.2.2.2.2.2.2.2.2.2.2.2.1 h1 h2 h3 h4 h5 hc hs kk δ σ σm H locs ls g0 hR hB hS hl
    | 34, _, ej =>
      have ej : o = 34 := ej
      refine lv_tableIn (off := 1228) (tgt := 1261) hx hb dL_law_33 (by rw [ej]; decide) (by rw [ej]; decide) (by rw [ej]; rfl) (by decide) ?_
      exact lc_opens X hst PL.2.2.2.2.2.2.2.2.2.2.2.2.2.2.2.2.2.2.2.2.2.2.2.2.2.2.2.2.2.2.2.2.2.2.1 h1 h2 h3 h4 h5 hc hs kk δ σ σm H locs ls g0 hR hB hS hl
    | 35, _, ej =>
      have ej : o = 35 := ej
      refine lv_tableIn (off := 1241) (tgt := 1274) hx hb dL_law_33 (by rw [ej]; decide) (by rw [ej]; decide) (by rw [ej]; rfl) (by decide) ?_
      exact lc_years X hst PL.2.2.2.2.2.2.2.2.2.2.2.2.2.2.2.2.2.2.2.2.2.2.2.2.2.2.2.2.2.2.2.2.2.2.2.1 h1 h2 h3 h4 h5 hc hs kk δ σ σm H locs ls g0 hR hB hS hl
    | 36, _, ej =>
      have ej : o = 36 := ej
      refine lv_tableIn (off := 1264) (tgt := 1297) hx hb dL_law_33 (by rw [ej]; decide) (by rw [ej]; decide) (by rw [ej]; rfl) (by decide) ?_
      exact lc_seed X hst PL.2.2.2.2.2.2.2.2.2.2.2.2.2.2.2.2.2.2.2.2.2.2.2.2.2.2.2.2.2.2.2.2.2.2.2.2.1 h1 h2 h3 h4 h5 hc hs kk δ σ σm H locs ls g0 hR hB hS hl
    | 37, _, ej =>
      have ej : o = 37 := ej
      refine lv_tableIn (off := 1287) (tgt := 1320) hx hb dL_law_33 (by rw [ej]; decide) (by rw [ej]; decide) (by rw [ej]; rfl) (by decide) ?_
      exact lc_act X hst PL.2.2.2.2.2.2.2.2.2.2.2.2.2.2.2.2.2.2.2.2.2.2.2.2.2.2.2.2.2.2.2.2.2.2.2.2.2.1 h1 h2 h3 h4 h5 hc hs kk δ σ σm H locs ls g0 hR hB hS hl
    | 38, _, ej =>
      have ej : o = 38 := ej
      refine lv_tableIn (off := 1330) (tgt := 1363) hx hb dL_law_33 (by rw [ej]; decide) (by rw [ej]; decide) (by rw [ej]; rfl) (by decide) ?_
      exact lc_trace X hst PL.2.2.2.2.2.2.2.2.2.2.2.2.2.2.2.2.2.2.2.2.2.2.2.2.2.2.2.2.2.2.2.2.2.2.2.2.2.2.1 h1 h2 h3 h4 h5 hc hs kk δ σ σm H locs ls g0 hR hB hS hl
    | 39, _, ej =>
      have ej : o = 39 := ej
      refine lv_tableIn (off := 1353) (tgt := 1386) hx hb dL_law_33 (by rw [ej]; decide) (by rw [ej]; decide) (by rw [ej]; rfl) (by decide) ?_
      exact lc_image X hst PL.2.2.2.2.2.2.2.2.2.2.2.2.2.2.2.2.2.2.2.2.2.2.2.2.2.2.2.2.2.2.2.2.2.2.2.2.2.2.2.1 h1 h2 h3 h4 h5 hc hs kk δ σ σm H locs ls g0 hR hB hS hl
    | 40, _, ej =>
      have ej : o = 40 := ej
      refine lv_tableIn (off := 1366) (tgt := 1399) hx hb dL_law_33 (by rw [ej]; decide) (by rw [ej]; decide) (by rw [ej]; rfl) (by decide) ?_
      exact lc_restore X hst PL.2.2.2.2.2.2.2.2.2.2.2.2.2.2.2.2.2.2.2.2.2.2.2.2.2.2.2.2.2.2.2.2.2.2.2.2.2.2.2.2.1 h1 h2 h3 h4 h5 hc hs kk δ σ σm H locs ls g0 hR hB hS hl
    | 41, _, ej =>
      have ej : o = 41 := ej
      refine lv_tableIn (off := 1379) (tgt := 1412) hx hb dL_law_33 (by rw [ej]; decide) (by rw [ej]; decide) (by rw [ej]; rfl) (by decide) ?_
      exact lc_status X hst PL.2.2.2.2.2.2.2.2.2.2.2.2.2.2.2.2.2.2.2.2.2.2.2.2.2.2.2.2.2.2.2.2.2.2.2.2.2.2.2.2.2 h1 h2 h3 h4 h5 hc hs kk δ σ σm H locs ls g0 hR hB hS hl
    | j + 42, hj, _ => exact absurd hj (by omega)
