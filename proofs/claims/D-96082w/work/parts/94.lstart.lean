/-! the law's entry (printed by gens2.py) -/
theorem l_cls {args : Array Value} {s : State} (hts : ∀ w ∈ lw_all, w.before args s = true) : ∀ q ∈ clA, ∃ (x : ClassId) (y : Nat → Nat), u_Kn s q.1 q.2.1 q.2.2 x y := by
  intro q hq
  simp only [clA, List.mem_cons, List.not_mem_nil, or_false] at hq
  rcases hq with rfl | rfl | rfl | rfl | rfl | rfl | rfl | rfl | rfl | rfl | rfl | rfl | rfl | rfl | rfl | rfl | rfl | rfl | rfl
  · exact u_known hts in_X4 (hts _ q1341)
  · exact u_known hts in_X0 (hts _ q110)
  · exact u_known hts in_X1 (hts _ q120)
  · exact u_known hts in_X2 (hts _ q136)
  · exact u_known hts in_X3 (hts _ q186)
  · exact u_known hts in_X11 (hts _ q803)
  · exact u_known hts in_X12 (hts _ q707)
  · exact u_known hts in_X13 (hts _ q753)
  · exact u_known hts in_X14 (hts _ q763)
  · exact u_known hts in_X15 (hts _ q773)
  · exact u_known hts in_X16 (hts _ q783)
  · exact u_known hts in_X17 (hts _ q794)
  · exact u_known hts in_X7 (hts _ q353)
  · exact u_known hts in_X8 (hts _ q366)
  · exact u_known hts in_X9 (hts _ q377)
  · exact u_known hts in_X10 (hts _ q387)
  · exact u_known hts in_X18 (hts _ q878)
  · exact u_known hts in_X5 (hts _ q305)
  · exact u_known hts in_X19 (hts _ q994)
theorem l_K0 {args : Array Value} {s : State} (hts : ∀ w ∈ lw_all, w.before args s = true) : ∃ D : va_G, ∀ (c : Nat) (q : vw_C), clA[c]? = some q → u_Kn s q.1 q.2.1 q.2.2 (D.1 c) (D.2 c) := by
  have hk : ∀ c : Nat, ∃ (x : ClassId) (y : Nat → Nat), ∀ q : vw_C, clA[c]? = some q → u_Kn s q.1 q.2.1 q.2.2 x y := by
    intro c
    cases h : clA[c]? with
    | none => exact ⟨0, fun _ => 0, fun q e => by cases e⟩
    | some q =>
      obtain ⟨x, y, k⟩ := l_cls hts q (List.mem_of_getElem? h)
      exact ⟨x, y, fun q' e => by cases e; exact k⟩
  exact ⟨(fun c => (hk c).choose, fun c => (hk c).choose_spec.choose), fun c q h => (hk c).choose_spec.choose_spec q h⟩
theorem l_arI {args : Array Value} {s : State} {ty : FieldType} (h : (Cond.arrayClass ty).before args s = true) : ∃ cA : ClassId, ArrOfT s cA ty ∧ s.vm.findClass ("[" ++ ty.toString) = some cA := by
  obtain ⟨cA, kA, comp, h1, h2, h3⟩ := Cond.arrayClass_spec h
  exact ⟨cA, fun n z => ⟨fun k h => (by cases h), kA, h2, comp, h3⟩, h1⟩
theorem l_arO {args : Array Value} {s : State} {C : String} (h : (Cond.arrayOver (.object C)).before args s = true) : ∃ cA : ClassId, ArrOfT s cA (.object C) ∧ va_RA s cA (.object C) := by
  obtain ⟨comp, cA, kA, f1, f2, f3, f4, f5⟩ := Cond.arrayOver_spec h
  exact ⟨cA, fun n z => ⟨fun k h => (by cases h), kA, by assumption, comp, by assumption⟩, kA, comp, by assumption, by assumption, by assumption, by assumption⟩
set_option maxHeartbeats 4000000 in
set_option maxRecDepth 100000 in
theorem l_texts {args : Array Value} {s : State} (hg : (Jvm.Cond.and given_1 narrow_1).before args s = true) : ∃ adK adV : Nat → Nat, vk_S 5 lenS bytS adK adV (AL s) s s.heap ∧ ∀ i : Nat, i < 5 → (Term.string RX18 (idxS.getD i 0)).eval args s none [] s = some (.ref (adK i)) := by
  have hs := flat_of_before _ hg
  refine vk_Sof (args := args) (s := s) (N := 5) (tm := fun i => Term.string RX18 (idxS.getD i 0)) (len := lenS) (byt := bytS) (A := AL s) (by decide) (fun i hi => ?_) (fun i hi => ?_) (fun i hi => ?_) (fun i hi => ?_) (fun i hi j hj => ?_) (fun i j hi hj ne => ?_) (fun a h => Nat.not_le.mpr h)
  ·
    rcases (show i = 0 ∨ i = 1 ∨ i = 2 ∨ i = 3 ∨ i = 4 by omega) with rfl | rfl | rfl | rfl | rfl <;> exact hs _ (by decide +kernel)
  ·
    rcases (show i = 0 ∨ i = 1 ∨ i = 2 ∨ i = 3 ∨ i = 4 by omega) with rfl | rfl | rfl | rfl | rfl <;> exact hs _ (by decide +kernel)
  ·
    rcases (show i = 0 ∨ i = 1 ∨ i = 2 ∨ i = 3 ∨ i = 4 by omega) with rfl | rfl | rfl | rfl | rfl <;> exact hs _ (by decide +kernel)
  ·
    rcases (show i = 0 ∨ i = 1 ∨ i = 2 ∨ i = 3 ∨ i = 4 by omega) with rfl | rfl | rfl | rfl | rfl <;> exact hs _ (by decide +kernel)
  · have hj5 : j < 5 := Nat.lt_of_lt_of_le hj (by rcases (show i = 0 ∨ i = 1 ∨ i = 2 ∨ i = 3 ∨ i = 4 by omega) with rfl | rfl | rfl | rfl | rfl <;> decide)
    rcases (show i = 0 ∨ i = 1 ∨ i = 2 ∨ i = 3 ∨ i = 4 by omega) with rfl | rfl | rfl | rfl | rfl <;> rcases (show j = 0 ∨ j = 1 ∨ j = 2 ∨ j = 3 ∨ j = 4 by omega) with rfl | rfl | rfl | rfl | rfl <;> first | exact hs _ (by decide +kernel) | exact absurd hj (by decide)
  · rcases (show i = 0 ∨ i = 1 ∨ i = 2 ∨ i = 3 ∨ i = 4 by omega) with rfl | rfl | rfl | rfl | rfl <;> rcases (show j = 0 ∨ j = 1 ∨ j = 2 ∨ j = 3 ∨ j = 4 by omega) with rfl | rfl | rfl | rfl | rfl <;> first | exact absurd rfl ne | exact Or.inl (hs _ (by decide +kernel)) | exact Or.inr (hs _ (by decide +kernel))
set_option maxHeartbeats 4000000 in
set_option maxRecDepth 100000 in
theorem l_nw {args : Array Value} {s : State} (hts : ∀ w ∈ lw_tbl, w.before args s = true) : ∀ w ∈ nwL, va_Nw w s := by
  have h1 : ∀ (C T : String), (Cond.castable C T).before args s = true → va_Nw (.castable C T) s := fun C T h => h
  have h2 : ∀ (x : MethodName), (Cond.declares x).before args s = true → va_Nw (.declares x) s := fun x h => h
  have hm : ∀ w ∈ nwL, w ∈ lw_tbl := by decide +kernel
  intro w hw
  have hb := hts w (hm w hw)
  simp only [nwL, List.mem_cons, List.not_mem_nil, or_false] at hw
  rcases hw with rfl | rfl | rfl | rfl | rfl | rfl | rfl | rfl | rfl | rfl | rfl | rfl | rfl | rfl | rfl | rfl | rfl | rfl | rfl | rfl | rfl | rfl | rfl | rfl | rfl | rfl | rfl | rfl | rfl
  all_goals first | exact h1 _ _ hb | exact h2 _ hb
set_option maxHeartbeats 4000000 in
set_option maxRecDepth 100000 in
theorem l_nc {args : Array Value} {s : State} (hg : (Jvm.Cond.and given_1 narrow_1).before args s = true) : ∀ x ∈ ncL, va_Nc x.1 x.2 s := by
  have hs := flat_of_before _ hg
  intro x hx
  simp only [ncL, List.mem_cons, List.not_mem_nil, or_false] at hx
  rcases hx with rfl | rfl | rfl | rfl | rfl | rfl | rfl | rfl | rfl | rfl | rfl | rfl | rfl | rfl | rfl | rfl | rfl | rfl | rfl | rfl | rfl | rfl | rfl | rfl | rfl | rfl | rfl | rfl | rfl | rfl | rfl | rfl | rfl | rfl | rfl | rfl | rfl | rfl | rfl | rfl | rfl | rfl | rfl | rfl | rfl | rfl | rfl | rfl | rfl | rfl | rfl | rfl | rfl | rfl | rfl | rfl | rfl | rfl | rfl | rfl | rfl | rfl | rfl | rfl | rfl | rfl | rfl | rfl | rfl | rfl | rfl | rfl
  all_goals exact va_Nc.of (hs _ (by decide +kernel))
set_option maxHeartbeats 4000000 in
set_option maxRecDepth 100000 in
theorem l_world {args : Array Value} {s : State} (hts : ∀ w ∈ lw_tbl, w.before args s = true) (hg : (Jvm.Cond.and given_1 narrow_1).before args s = true) (hm : modulesRight_1 s = true) : ∃ Γ : GA, KX Γ s ∧ ZS Γ (AL s) s s.heap := by
  have hta : ∀ w ∈ lw_all, w.before args s = true := fun w h => hts w (List.mem_filter.mp h).1
  have hs := flat_of_before _ hg
  have hA : ∀ a : Nat, a < s.heap.size → ¬ AL s a := fun a h => Nat.not_le.mpr h
  obtain ⟨D, hD⟩ := l_K0 hta
  obtain ⟨adK, adV, hSt, hEv⟩ := l_texts hg
  obtain ⟨cI, acI, rcI⟩ := l_arI (ty := .int) (hta _ q134)
  obtain ⟨cJ, acJ, rcJ⟩ := l_arI (ty := .long) (hta _ q396)
  obtain ⟨cB, acB, rcB⟩ := l_arI (ty := .byte) (hta _ q300)
  obtain ⟨cS, acS, rcS⟩ := l_arI (ty := .short) (hta _ q375)
  obtain ⟨cT, acT, rcT⟩ := l_arO (hts _ q142)
  obtain ⟨cH, acH, rcH⟩ := l_arO (hts _ q118)
  refine ⟨(D, fun n => if n = 0 then cI else if n = 1 then cJ else if n = 2 then cB else if n = 3 then cS else if n = 4 then cT else if n = 5 then cH else if n < 20 then adK (n - 10) else adV (n - 20)), ⟨⟨hD, fun k q hk => ?_⟩, l_nw hts, va_AO.of (hts _ q142), va_AO.of (hts _ q118), l_nc hg, hm⟩, ?_, ?_, ⟨?_, fun i hi => ?_⟩, ?_, ?_⟩
  · match k, hk with
    | 0, hk => cases hk; exact ⟨acI, rcI⟩
    | 1, hk => cases hk; exact ⟨acJ, rcJ⟩
    | 2, hk => cases hk; exact ⟨acB, rcB⟩
    | 3, hk => cases hk; exact ⟨acS, rcS⟩
    | 4, hk => cases hk; exact ⟨acT, rcT⟩
    | 5, hk => cases hk; exact ⟨acH, rcH⟩
    | k + 6, hk => cases hk
  · exact vx_Zqof (hts _ q245) (hts _ (List.mem_filter.mp q80).1) (hs _ (by decide +kernel)) hA
  · exact vx_Zqof (hts _ q247) (hts _ (List.mem_filter.mp q80).1) (hs _ (by decide +kernel)) hA
  · refine ⟨fun i hi => ?_, fun i j hi hj e => ?_⟩
    · rcases (show i = 0 ∨ i = 1 ∨ i = 2 ∨ i = 3 ∨ i = 4 by omega) with rfl | rfl | rfl | rfl | rfl
      · exact hSt.1 0 hi
      · exact hSt.1 1 hi
      · exact hSt.1 2 hi
      · exact hSt.1 3 hi
      · exact hSt.1 4 hi
    · refine hSt.2 i j hi hj ?_
      rcases (show i = 0 ∨ i = 1 ∨ i = 2 ∨ i = 3 ∨ i = 4 by omega) with rfl | rfl | rfl | rfl | rfl <;> rcases (show j = 0 ∨ j = 1 ∨ j = 2 ∨ j = 3 ∨ j = 4 by omega) with rfl | rfl | rfl | rfl | rfl <;> exact e
  · rcases (show i = 0 ∨ i = 1 ∨ i = 2 ∨ i = 3 ∨ i = 4 by omega) with rfl | rfl | rfl | rfl | rfl
    · exact vk_R.of (hts _ q936) (hEv 0 hi)
    · exact vk_R.of (hts _ q1031) (hEv 1 hi)
    · exact vk_R.of (hts _ q1032) (hEv 2 hi)
    · exact vk_R.of (hts _ q1038) (hEv 3 hi)
    · exact vk_R.of (hts _ q1039) (hEv 4 hi)
  · exact va_Zof (hts _ q950) (hts _ (List.mem_filter.mp q85).1) (Lib.String.coder.eq_spec (hs _ (by decide +kernel))) hA
  · exact va_Zqof (hts _ q966) (hts _ (List.mem_filter.mp q106).1) (hs _ (by decide +kernel)) hA
set_option maxHeartbeats 4000000 in
set_option maxRecDepth 100000 in
theorem l_loop {p : Program} {l : Launch} {e : Env} {s : State} {m : MethodId} {below : List Frame} {meth : Method} {c : Code} {b L : Nat} {xs : Nat → Int32} {Γ : GA} {α : Nat → Nat} {x : Nat} {RL : XSh → XSt → MSt → Nat → Prop} (X : CL p s m meth c b L xs Γ) (hret : meth.sig.returnType = ret) (hlk : meth.locks = false) (hst : l.stackTraces = false) (PL : Pl RL) (hL : L ≤ 384) : ∀ (n j : Nat), j + n = 64 → LT p l e s m below meth c b Γ α x RL (nI (6 * j)) (42 + j * 4659) (1898 + j * 33787) 18 := by
  intro n
  induction n with
  | zero =>
    intro j hj δ σ σm H locs ls g0 hR hB hS hl
    obtain ⟨hx, hb, hml, hown, hts, hK, hZ, hX, hbl⟩ := id X
    have hbA : ¬ AL s b := Nat.not_le.mpr hbl
    refine lv_iload_n hx hb dL_law_18 rfl (lv_at hl 3 rfl) ?_
    refine lv_aload_n hx hb dL_law_19 rfl (lv_at hl 0 rfl) ?_
    refine va_slen hx hb hX hbl hbA hS dL_law_20 ?_
    refine lv_bipush (v := 6) hx hb dL_law_21 (by decide) ?_
    refine lv_isub hx hb dL_law_23 ?_
    refine lv_icmp_gt (tgt := 1441) hx hb dL_law_24 (by decide) (fun c1 => ?_) (fun c1 => ?_)
    · refine lv_iconst (v := 1) hx hb dL_law_1441 (by decide) ?_
      refine va_forget (fun q hq => hS.2.2 q hq) ?_
      refine W.widen (k := 603072) (n := 7262314) (by omega) (by omega) ?_
      exact lw_ret hx hb hret hlk dL_law_1442
    · exfalso
      refine c1 ?_
      rw [Int32.lt_iff_toInt_lt]
      have e1 : (Int32.ofNat L - 6).toInt = (L : Int) - 6 := pk_sub_toInt (a := L) (b := 6) (by omega) (by omega)
      rw [e1, nI_toInt (by omega)]
      omega
  | succ n ih =>
    intro j hj δ σ σm H locs ls g0 hR hB hS hl
    obtain ⟨hx, hb, hml, hown, hts, hK, hZ, hX, hbl⟩ := id X
    have hbA : ¬ AL s b := Nat.not_le.mpr hbl
    refine lv_iload_n hx hb dL_law_18 rfl (lv_at hl 3 rfl) ?_
    refine lv_aload_n hx hb dL_law_19 rfl (lv_at hl 0 rfl) ?_
    refine va_slen hx hb hX hbl hbA hS dL_law_20 ?_
    refine lv_bipush (v := 6) hx hb dL_law_21 (by decide) ?_
    refine lv_isub hx hb dL_law_23 ?_
    refine lv_icmp_gt (tgt := 1441) hx hb dL_law_24 (by decide) (fun c1 => ?_) (fun c1 => ?_)
    · refine lv_iconst (v := 1) hx hb dL_law_1441 (by decide) ?_
      refine va_forget (fun q hq => hS.2.2 q hq) ?_
      refine W.widen (k := 603072) (n := 7262314) (by omega) (by omega) ?_
      exact lw_ret hx hb hret hlk dL_law_1442
    · have h6 : 6 * j + 6 ≤ L := by
        rw [Int32.lt_iff_toInt_lt] at c1
        have e1 : (Int32.ofNat L - 6).toInt = (L : Int) - 6 := pk_sub_toInt (a := L) (b := 6) (by omega) (by omega)
        rw [e1, nI_toInt (by omega)] at c1
        omega
      have hk : ∀ k, k ≤ 5 → vp_in (nI (6 * j) + nI k) L := fun k hk => by rw [nI_add]; exact vp_in_nI (by omega) (by omega)
      refine l_switch X hst PL (vp_in_nI (by omega) (by omega)) (hk 1 (by decide)) (hk 2 (by decide)) (hk 3 (by decide)) (hk 4 (by decide)) (hk 5 (by decide)) (by omega) (by omega) ?_ δ σ σm H locs ls g0 hR hB hS hl
      intro δ σ σm H locs ls g0 hR hB hS hl
      refine lv_iinc (v := nI (6 * j) + 6) (lv' := [(3, .int (nI (6 * j) + 6)), (0, .ref b), (1, .ref x), (2, .ref (α 50))]) hx hb dL_law_1435 hl (k := 3) rfl rfl (by decide) rfl (fun ls hl => ?_)
      refine lv_goto (tgt := 18) hx hb dL_law_1438 (by decide) ?_
      have e6 : nI (6 * j) + 6 = nI (6 * (j + 1)) := by
        show nI (6 * j) + nI 6 = _
        rw [nI_add]
        rfl
      rw [e6] at hl
      have := ih (j + 1) (by omega) δ σ σm H locs ls g0 hR hB hS (lv_sub hl [1, 2, 3, 0] rfl)
      rw [show 42 + (j + 1) * 4659 = 42 + j * 4659 + 4659 by omega, show 1898 + (j + 1) * 33787 = 1898 + j * 33787 + 33787 by omega] at this
      exact this
theorem headP {Γ : GA} {X ex : va_W} {H : Heap} (h : va_P Γ.1 clA (ex ++ X) H) : va_P Γ.1 clA ex H := fun k q hk => h k q (by rw [List.getElem?_append_left (List.getElem?_eq_some_iff.mp hk).1]; exact hk)
theorem headD {A : Nat → Prop} {X ex : va_W} (h : va_D A (ex ++ X)) : va_D A ex := ⟨fun i j p q hi hj e => h.1 i j p q (by rw [List.getElem?_append_left (List.getElem?_eq_some_iff.mp hi).1]; exact hi) (by rw [List.getElem?_append_left (List.getElem?_eq_some_iff.mp hj).1]; exact hj) e, fun k q hk => h.2 k q (by rw [List.getElem?_append_left (List.getElem?_eq_some_iff.mp hk).1]; exact hk)⟩
theorem apD {A : Nat → Prop} {X ex : va_W} (h : va_D A (ex ++ X)) {a b : Nat} (ha : a ∈ ex.map (fun q => q.1)) (hb : b ∈ X.map (fun q => q.1)) : b ≠ a := by
  obtain ⟨p, hp, ep⟩ := List.mem_map.mp ha
  obtain ⟨q, hq, eq⟩ := List.mem_map.mp hb
  obtain ⟨i, hi⟩ := List.getElem?_of_mem hp
  obtain ⟨j, hj⟩ := List.getElem?_of_mem hq
  have i1 := (List.getElem?_eq_some_iff.mp hi).1
  intro z
  have := h.1 i (ex.length + j) p q (by rw [List.getElem?_append_left i1]; exact hi) (by rw [List.getElem?_append_right (by omega), show ex.length + j - ex.length = j by omega]; exact hj) (by rw [ep, eq]; exact z.symm)
  omega
set_option maxHeartbeats 8000000 in
set_option maxRecDepth 100000 in
theorem l_whole {RL : XSh → XSt → MSt → Nat → Prop} (PL : Pl RL) (hS0 : ∀ q a1 a2 a3 a4 a5 a6 a7 a8 a9 a10 a11 a12 a13 a14 a15 a16 a17 a18 a19 a20 : Nat, gD (δS q a1 a2 a3 a4 a5 a6 a7 a8 a9 a10 a11 a12 a13 a14 a15 a16 a17 a18 a19 a20).1 (adX (δS q a1 a2 a3 a4 a5 a6 a7 a8 a9 a10 a11 a12 a13 a14 a15 a16 a17 a18 a19 a20)) (fun _ => True) → RL (δS q a1 a2 a3 a4 a5 a6 a7 a8 a9 a10 a11 a12 a13 a14 a15 a16 a17 a18 a19 a20) (σS a5 a9 a13 a14 a15 a16 a17 a18 a19 a20) σM q) {p : Program} {e : Env} {s : State} {m : MethodId} {below : List Frame} {meth : Method} {c : Code} (l : Launch) (hflags : l.flags = flags0) {b L : Nat} {xs : Nat → Int32} (hL : L ≤ 384) (C0 : lw_At p s m meth c b L xs) : W p l e room_1 s m #[Value.ref b] below meth c s.heap [] 0 0 (lw_Z below #[Value.ref b] s) (entryFrame m ([Value.ref b] : List Value).toArray 4) := by
  obtain ⟨hx, hb, hret, hml, hown, hts, hX, hbl, hlk, hg, hm⟩ := C0
  have hst : l.stackTraces = false := by
    unfold Launch.stackTraces
    rw [hflags]
    decide +kernel
  have hb : c.code = cL_law := hb
  have hta : ∀ w ∈ lw_all, w.before #[Value.ref b] s = true := fun w h => hts w (List.mem_filter.mp h).1
  obtain ⟨Γ, hK, hZ⟩ := l_world hts hg hm
  have hA : ∀ q, s.heap.size ≤ q → AL s q := fun _ h => h
  have hl := lv_entry [Value.ref b] (n := 4) (Nat.le_of_ble_eq_true rfl)
  rw [lg_entry_eq]
  refine va_new (D := Γ.1) (ci := 1) (fs := [.null, .null, .null, .null, .null, .null, .int 0]) (C := RX0) (T := TX0) (N := 7) hx hb hta in_X0 tyX0 tyX0_ok hown (hta _ q109) (hta _ q110) (hta _ q75) hK.1 (ws := []) (fun k q h => by cases h) ⟨fun i j p q h => (by cases h), fun k q h => (by cases h)⟩ va_S.rf hA rfl (fun j hj => by rcases (show j = 0 ∨ j = 1 ∨ j = 2 ∨ j = 3 ∨ j = 4 ∨ j = 5 ∨ j = 6 by omega) with rfl | rfl | rfl | rfl | rfl | rfl | rfl <;> rfl) (Nat.le_of_ble_eq_true rfl) (Nat.le_of_ble_eq_true rfl) dL_law_0 (fun x H hP hD hS => ?_)
  refine lv_dup hx hb dL_law_3 rfl ?_
  refine r_go (X := []) (va_runI (As := []) (rest := [.ref x]) ⟨hx, hb, hml, hown, hta⟩ (ct_S H.size) (cwI 0 hta (lw_meth q113) rfl rfl rfl (hta _ q75) (hta _ q111) (hta _ q112) rfl (by decide +kernel) ⟨(Nat.le_of_ble_eq_true rfl), (Nat.le_of_ble_eq_true rfl)⟩) (r_pre hK hA hZ hP hD hS) rfl rfl hl.1 rfl (lv_room (Nat.le_of_ble_eq_true rfl)) dL_law_4 ⟨(Nat.le_of_ble_eq_true rfl), (Nat.le_of_ble_eq_true rfl)⟩) hA hP hD hS (fun ex H locs hk hP hD hS => ?_)
  obtain ⟨a1, a2, a3, a4, a5, a6, a7, a8, a9, a10, a11, a12, a13, a14, a15, a16, a17, a18, a19, a20, rfl⟩ := hk
  obtain ⟨hP1, hO1, hD1⟩ := mkS hP hD
  refine lv_astore_n (lv' := [(1, .ref x), (0, .ref b)]) hx hb dL_law_7 rfl hl (by decide) rfl (fun ls hl => ?_)
  refine va_new (D := Γ.1) (ci := 0) (fs := [.int 0, .int 0, .int 0, .int 0, .int 0, .int 0, .null, .null, .null, .null, .null, .null, .null, .null, .null, .null, .null, .null, .null, .null, .null, .null, .int 0, .int 0, .int 0, .int 0, .int 0, .null, .null, .int 0, .int 0, .int 0, .null, .int 0, .int 0, .null, .int 0, .int 0]) (C := RX4) (T := TX4) (N := 38) hx hb hta in_X4 tyX4 tyX4_ok hown (hta _ q1340) (hta _ q1341) (hta _ q79) hK.1 hP1.1 (hD1.va (fun _ => rfl)) hS hA rfl (fun j hj => by rcases (show j = 0 ∨ j = 1 ∨ j = 2 ∨ j = 3 ∨ j = 4 ∨ j = 5 ∨ j = 6 ∨ j = 7 ∨ j = 8 ∨ j = 9 ∨ j = 10 ∨ j = 11 ∨ j = 12 ∨ j = 13 ∨ j = 14 ∨ j = 15 ∨ j = 16 ∨ j = 17 ∨ j = 18 ∨ j = 19 ∨ j = 20 ∨ j = 21 ∨ j = 22 ∨ j = 23 ∨ j = 24 ∨ j = 25 ∨ j = 26 ∨ j = 27 ∨ j = 28 ∨ j = 29 ∨ j = 30 ∨ j = 31 ∨ j = 32 ∨ j = 33 ∨ j = 34 ∨ j = 35 ∨ j = 36 ∨ j = 37 by omega) with rfl | rfl | rfl | rfl | rfl | rfl | rfl | rfl | rfl | rfl | rfl | rfl | rfl | rfl | rfl | rfl | rfl | rfl | rfl | rfl | rfl | rfl | rfl | rfl | rfl | rfl | rfl | rfl | rfl | rfl | rfl | rfl | rfl | rfl | rfl | rfl | rfl | rfl <;> rfl) (Nat.le_of_ble_eq_true rfl) (Nat.le_of_ble_eq_true rfl) dL_law_8 (fun y H hP hD hS => ?_)
  refine lv_dup hx hb dL_law_11 rfl ?_
  replace hP := rotP hP
  replace hD := rotD hD
  refine r_go (X := (δS x a1 a2 a3 a4 a5 a6 a7 a8 a9 a10 a11 a12 a13 a14 a15 a16 a17 a18 a19 a20).1.map (gX Γ (δS x a1 a2 a3 a4 a5 a6 a7 a8 a9 a10 a11 a12 a13 a14 a15 a16 a17 a18 a19 a20) (σS a5 a9 a13 a14 a15 a16 a17 a18 a19 a20))) (va_runI (As := []) (rest := [.ref y]) ⟨hx, hb, hml, hown, hta⟩ (ct_M H.size) (cwI 0 hta (lw_meth q1344) rfl rfl rfl (hta _ q79) (hta _ q1342) (hta _ q1343) rfl (by decide +kernel) ⟨(Nat.le_of_ble_eq_true rfl), (Nat.le_of_ble_eq_true rfl)⟩) (r_pre hK hA hZ hP hD hS) rfl rfl hl.1 rfl (lv_room (Nat.le_of_ble_eq_true rfl)) dL_law_12 ⟨(Nat.le_of_ble_eq_true rfl), (Nat.le_of_ble_eq_true rfl)⟩) hA hP hD hS (fun ex H locs hk hP hD hS => ?_)
  obtain ⟨b1, b2, b3, b4, b5, b6, b7, b8, b9, b10, b11, b12, b13, b14, b15, b16, b17, b18, b19, b20, rfl⟩ := hk
  obtain ⟨hM, hGM⟩ := mkM (headP hP) (headD hD)
  have hap : ∀ κ ∈ (δS x a1 a2 a3 a4 a5 a6 a7 a8 a9 a10 a11 a12 a13 a14 a15 a16 a17 a18 a19 a20).1, ∀ k ∈ dmM, adX (δS x a1 a2 a3 a4 a5 a6 a7 a8 a9 a10 a11 a12 a13 a14 a15 a16 a17 a18 a19 a20) κ ≠ αM y b1 b2 b3 b4 b5 b6 b7 b8 b9 b10 b11 b12 b13 b14 b15 b16 b17 b18 b19 b20 k := by
    intro κ hκ k hk
    refine apD hD ?_ ?_
    · simp only [dmM, List.mem_cons, List.not_mem_nil, or_false] at hk
      rcases hk with rfl | rfl | rfl | rfl | rfl | rfl | rfl | rfl | rfl | rfl | rfl | rfl | rfl | rfl | rfl | rfl | rfl | rfl | rfl | rfl | rfl <;> simp [αM]
    · exact List.mem_map.mpr ⟨gX Γ _ _ κ, List.mem_map.mpr ⟨κ, hκ, rfl⟩, rfl⟩
  have hB : LB Γ (AL s) (δS x a1 a2 a3 a4 a5 a6 a7 a8 a9 a10 a11 a12 a13 a14 a15 a16 a17 a18 a19 a20) (σS a5 a9 a13 a14 a15 a16 a17 a18 a19 a20) (αM y b1 b2 b3 b4 b5 b6 b7 b8 b9 b10 b11 b12 b13 b14 b15 b16 b17 b18 b19 b20) σM H := ⟨⟨tailP hP, hP1.2⟩, hO1, hD1, hM, hGM, hap⟩
  refine lv_astore_n (lv' := [(2, .ref y), (1, .ref x), (0, .ref b)]) hx hb dL_law_15 rfl hl (by decide) rfl (fun ls hl => ?_)
  refine lv_iconst (v := 0) hx hb dL_law_16 (by decide) ?_
  refine lv_istore_n (lv' := [(3, .int 0), (2, .ref y), (1, .ref x), (0, .ref b)]) hx hb dL_law_17 rfl hl (by decide) rfl (fun ls hl => ?_)
  have h0 : (0, x) ∈ (δS x a1 a2 a3 a4 a5 a6 a7 a8 a9 a10 a11 a12 a13 a14 a15 a16 a17 a18 a19 a20).1 := by simp [δS]
  exact l_loop (α := αM y b1 b2 b3 b4 b5 b6 b7 b8 b9 b10 b11 b12 b13 b14 b15 b16 b17 b18 b19 b20) ⟨hx, hb, hml, hown, hta, hK, hZ, hX, hbl⟩ hret hlk hst PL hL 64 0 rfl _ _ _ H locs ls h0 (hS0 x a1 a2 a3 a4 a5 a6 a7 a8 a9 a10 a11 a12 a13 a14 a15 a16 a17 a18 a19 a20 ⟨hD1.1, fun _ _ => trivial⟩) hB hS (lv_sub hl [3, 2, 1, 0] rfl)
