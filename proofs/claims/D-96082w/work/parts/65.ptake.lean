/-! take and add -/
theorem tPa_s (σ : XSt) (k i : Nat) (f : Nat → Option Nat) : (tPa σ k i f).2.2 k i = f := by simp [tPa]
theorem tPa_n (σ : XSt) {k i k' i' : Nat} (f : Nat → Option Nat) (h : ¬ (k' = k ∧ i' = i)) : (tPa σ k i f).2.2 k' i' = σ.2.2 k' i' := by
  show (if k' = k ∧ i' = i then _ else _) = _
  rw [if_neg h]
theorem tIa_s (σ : XSt) (k i : Nat) (f : Nat → Int32) : (tIa σ k i f).1 k i = f := by simp [tIa]
theorem tIa_n (σ : XSt) {k i k' i' : Nat} (f : Nat → Int32) (h : ¬ (k' = k ∧ i' = i)) : (tIa σ k i f).1 k' i' = σ.1 k' i' := by
  show (if k' = k ∧ i' = i then _ else _) = _
  rw [if_neg h]
theorem Kp.tPa {g k : Nat} {f : Nat → Option Nat} {δ : XSh} {σ : XSt} (hk : isG k) : Kp g δ σ δ (tPa σ k g f) := ⟨Ext.rf, fun k' i' _ hn => ⟨rfl, rfl, tPa_n σ f (fun z => hn ⟨z.2, by rw [z.1]; exact hk⟩)⟩⟩
theorem Kp.tIa {g k : Nat} {f : Nat → Int32} {δ : XSh} {σ : XSt} (hk : isG k) : Kp g δ σ δ (tIa σ k g f) := ⟨Ext.rf, fun k' i' _ hn => ⟨tIa_n σ f (fun z => hn ⟨z.2, by rw [z.1]; exact hk⟩), rfl, rfl⟩⟩
theorem cpy8 {n : Nat} (hn : n ≤ 8) : Cpy (0 : Int32) (0 : Int32) (nI n) 8 8 := by
  unfold Cpy
  have e0 : (0 : Int32).toNatClampNeg = 0 := by decide
  rw [nI_clamp (by omega), e0]
  exact ⟨by decide, by decide, nI_pos (by omega), by omega, by omega⟩
theorem xp_take8 {G : Gd} {δ : XSh} {σ : XSt} {g g1 : Nat} {K : Nat → XSt → Prop} (hR : RC G δ σ g1) (hi : gI δ g1) (hne : g1 ≠ g) (hn : gN G ≤ 8) (h01 : gF G 0 = 0 ∨ gF G 0 = 1) (hK : ∀ σ', RC G δ σ' g → Kp g δ σ δ σ' → (∀ t, t < gN G → σ'.2.2 8 g t = σ.2.2 8 g1 t) → K g σ') : xw_G_take δ K g g1 σ := by
  obtain ⟨h0, h1, h2, h3, h4, h5, h6⟩ := hR
  have six : ∀ u : XSt, Kp g δ σ δ u → u.1 6 g1 = σ.1 6 g1 := fun u k => (k.2 6 g1 hi.1 (fun z => hne z.1)).1
  unfold xw_G_take
  intro s1 e1
  have k1 : Kp g δ σ δ s1 := by rw [e1]; exact Kp.tI ig6
  have a10 : s1.1 6 g 0 = nI (gN G) := by rw [e1, tI_s, pk_us, h0]
  rw [six s1 k1, h1]
  refine ⟨h01, ?_⟩
  intro s3 e3
  have k3 : Kp g δ σ δ s3 := k1.tr (by rw [e3]; exact Kp.tI ig6)
  have a30 : s3.1 6 g 0 = nI (gN G) := by rw [e3, tI_s, pk_un (by decide), a10]
  have a31 : s3.1 6 g 1 = gF G 0 := by rw [e3, tI_s, pk_us]
  rw [six s3 k3, h2]
  intro s4 e4
  have k4 : Kp g δ σ δ s4 := k3.tr (by rw [e4]; exact Kp.tI ig6)
  have a40 : s4.1 6 g 0 = nI (gN G) := by rw [e4, tI_s, pk_un (by decide), a30]
  have a41 : s4.1 6 g 1 = gF G 0 := by rw [e4, tI_s, pk_un (by decide), a31]
  have a42 : s4.1 6 g 2 = gF G 1 := by rw [e4, tI_s, pk_us]
  rw [six s4 k4, h3]
  intro s5 e5
  have k5 : Kp g δ σ δ s5 := k4.tr (by rw [e5]; exact Kp.tI ig6)
  have a50 : s5.1 6 g 0 = nI (gN G) := by rw [e5, tI_s, pk_un (by decide), a40]
  have a51 : s5.1 6 g 1 = gF G 0 := by rw [e5, tI_s, pk_un (by decide), a41]
  have a52 : s5.1 6 g 2 = gF G 1 := by rw [e5, tI_s, pk_un (by decide), a42]
  have a53 : s5.1 6 g 3 = bm (gC G) (gN G) := by rw [e5, tI_s, pk_us]
  rw [six s5 k5, h4]
  intro s6 e6
  have k6 : Kp g δ σ δ s6 := k5.tr (by rw [e6]; exact Kp.tI ig6)
  have a60 : s6.1 6 g 0 = nI (gN G) := by rw [e6, tI_s, pk_un (by decide), a50]
  have a61 : s6.1 6 g 1 = gF G 0 := by rw [e6, tI_s, pk_un (by decide), a51]
  have a62 : s6.1 6 g 2 = gF G 1 := by rw [e6, tI_s, pk_un (by decide), a52]
  have a63 : s6.1 6 g 3 = bm (gC G) (gN G) := by rw [e6, tI_s, pk_un (by decide), a53]
  have a64 : s6.1 6 g 4 = gF G 2 := by rw [e6, tI_s, pk_us]
  rw [six s6 k6, h5]
  intro s7 e7
  have k7 : Kp g δ σ δ s7 := k6.tr (by rw [e7]; exact Kp.tI ig6)
  have a70 : s7.1 6 g 0 = nI (gN G) := by rw [e7, tI_s, pk_un (by decide), a60]
  have a71 : s7.1 6 g 1 = gF G 0 := by rw [e7, tI_s, pk_un (by decide), a61]
  have a72 : s7.1 6 g 2 = gF G 1 := by rw [e7, tI_s, pk_un (by decide), a62]
  have a73 : s7.1 6 g 3 = bm (gC G) (gN G) := by rw [e7, tI_s, pk_un (by decide), a63]
  have a74 : s7.1 6 g 4 = gF G 2 := by rw [e7, tI_s, pk_un (by decide), a64]
  have a75 : s7.1 6 g 5 = gF G 3 := by rw [e7, tI_s, pk_us]
  clear e1 e3 e4 e5 e6 e7
  have z0 : (0 : Int32).toNatClampNeg = 0 := by decide
  rw [a70, z0, nI_clamp (by omega)]
  refine ⟨cpy8 hn, ?_⟩
  intro s9 e9
  have k9 : Kp g δ σ δ s9 := k7.tr (by rw [e9]; exact Kp.tPa ig8)
  have s69 : s9.1 6 g = s7.1 6 g := by rw [e9]; rfl
  have b8 : ∀ t, t < gN G → s9.2.2 8 g t = σ.2.2 8 g1 t := fun t ht => by
    rw [e9, tPa_s, pk_cpy_in (Nat.zero_le _) (by omega), (k7.2 8 g1 hi.2.1 (fun z => hne z.1)).2.2]
    rw [show 0 + (t - 0) = t by omega]
  rw [s69, a70, nI_clamp (by omega)]
  refine ⟨cpy8 hn, ?_⟩
  intro s11 e11
  have k11 : Kp g δ σ δ s11 := k9.tr (by rw [e11]; exact Kp.tIa ig9)
  have s611 : s11.1 6 g = s7.1 6 g := by rw [e11, tIa_n _ _ (fun z => absurd z.1 (by decide)), s69]
  have c8 : ∀ t, t < gN G → s11.2.2 8 g t = σ.2.2 8 g1 t := fun t ht => by rw [e11]; exact b8 t ht
  have c9 : ∀ t, t < gN G → s11.1 9 g t = σ.1 9 g1 t := fun t ht => by
    rw [e11, tIa_s, pk_cpy_in (Nat.zero_le _) (by omega), (k9.2 9 g1 hi.2.2.1 (fun z => hne z.1)).1]
    rw [show 0 + (t - 0) = t by omega]
  rw [s611, a70, nI_clamp (by omega)]
  refine ⟨cpy8 hn, ?_⟩
  intro s13 e13
  have k13 : Kp g δ σ δ s13 := k11.tr (by rw [e13]; exact Kp.tIa ig10)
  have s613 : s13.1 6 g = s7.1 6 g := by rw [e13, tIa_n _ _ (fun z => absurd z.1 (by decide)), s611]
  have d8 : ∀ t, t < gN G → s13.2.2 8 g t = σ.2.2 8 g1 t := fun t ht => by rw [e13]; exact c8 t ht
  have d9 : ∀ t, t < gN G → s13.1 9 g t = σ.1 9 g1 t := fun t ht => by rw [e13, tIa_n _ _ (fun z => absurd z.1 (by decide))]; exact c9 t ht
  have d10 : ∀ t, t < gN G → s13.1 10 g t = σ.1 10 g1 t := fun t ht => by
    rw [e13, tIa_s, pk_cpy_in (Nat.zero_le _) (by omega), (k11.2 10 g1 hi.2.2.2 (fun z => hne z.1)).1]
    rw [show 0 + (t - 0) = t by omega]
  refine hK s13 ?_ k13 d8
  unfold RC
  rw [s613]
  refine ⟨a70, a71, a72, a73, a74, a75, fun i hi' => ?_⟩
  obtain ⟨b1, b2, o, b3, b4, b5, b6⟩ := h6 i hi'
  refine ⟨(d9 i hi').trans b1, (d10 i hi').trans b2, o, (d8 i hi').trans b3, b4, b5, ?_⟩
  rw [(k13.2 7 o b4 (n7 (by decide))).1]
  exact b6
theorem xp_take {G : Gd} {δ : XSh} {σ : XSt} {g g1 : Nat} {K : Nat → XSt → Prop} (hR : RC G δ σ g1) (hi : gI δ g1) (hne : g1 ≠ g) (hn : gN G ≤ 8) (h01 : gF G 0 = 0 ∨ gF G 0 = 1) (hK : ∀ σ', RC G δ σ' g → Kp g δ σ δ σ' → K g σ') : xw_G_take δ K g g1 σ:= xp_take8 hR hi hne hn h01 (fun σ' a b _ => hK σ' a b)
/-- a ground with one thing more -/
def addG (G : Gd) (k : Nat) (x y h a : Int32) : Gd := (gN G + 1, gF G, fun i => if i = gN G then k else gK G i, fun b i => if i = gN G then (if b = 1 then x else if b = 2 then y else if b = 3 then a else h) else gV G b i, fun i => if i = gN G then false else gC G i, fun i j => if i = gN G ∨ j = gN G then false else gS G i j)
theorem addG_N (G : Gd) (k : Nat) (x y h a : Int32) : gN (addG G k x y h a) = gN G + 1 := rfl
theorem addG_K (G : Gd) (k : Nat) (x y h a : Int32) (i : Nat) : gK (addG G k x y h a) i = if i = gN G then k else gK G i := rfl
theorem addG_V (G : Gd) (k : Nat) (x y h a : Int32) (b i : Nat) : gV (addG G k x y h a) b i = if i = gN G then (if b = 1 then x else if b = 2 then y else if b = 3 then a else h) else gV G b i := rfl
theorem addG_C (G : Gd) (k : Nat) (x y h a : Int32) (i : Nat) : gC (addG G k x y h a) i = if i = gN G then false else gC G i := rfl
theorem addG_S (G : Gd) (k : Nat) (x y h a : Int32) (i j : Nat) : gS (addG G k x y h a) i j = if i = gN G ∨ j = gN G then false else gS G i j := rfl
theorem bm_more {p : Nat → Bool} {n : Nat} (q : Nat → Bool) (h : ∀ i, i < n → q i = p i) (hn : q n = false) : bm q (n + 1) = bm p n := by
  rw [← bm_f hn]
  exact bm_congr h
theorem RC.add {G : Gd} {δ δ1 : XSh} {σ σ' : XSt} {g q k : Nat} {x y h a : Int32} (hR : RC G δ σ g) (hgi : gI δ g) (hk : Kp g δ σ δ1 σ') (e0 : σ'.1 6 g 0 = nI (gN G + 1)) (e6 : ∀ j, j ≠ 0 → σ'.1 6 g j = σ.1 6 g j) (e8 : ∀ t, σ'.2.2 8 g t = if t = gN G then some q else σ.2.2 8 g t) (e9 : ∀ t, σ'.1 9 g t = if t = gN G then h else σ.1 9 g t) (e10 : ∀ t, σ'.1 10 g t = if t = gN G then 0 else σ.1 10 g t) (hq : (7, q) ∈ δ1.1) (hc : δ1.2.2.1 q = 5 + k) (f0 : σ'.1 7 q 0 = nI (gN G)) (f1 : σ'.1 7 q 1 = x) (f2 : σ'.1 7 q 2 = y) (f3 : σ'.1 7 q 3 = a) : RC (addG G k x y h a) δ1 σ' g := by
  obtain ⟨h0, h1, h2, h3, h4, h5, h6⟩ := hR
  refine ⟨e0, ?_, ?_, ?_, ?_, ?_, fun i hi => ?_⟩
  · rw [e6 1 (by decide)]; exact h1
  · rw [e6 2 (by decide)]; exact h2
  · rw [e6 3 (by decide), h3]
    refine (bm_more _ (fun i hi => ?_) ?_).symm
    · have : ¬ i = gN G := by omega
      simp [addG_C, this]
    · simp [addG_C]
  · rw [e6 4 (by decide)]; exact h4
  · rw [e6 5 (by decide)]; exact h5
  · rw [e8, e9, e10]
    by_cases c : i = gN G
    · subst c
      simp only [if_true]
      refine ⟨by simp [addG_K, addG_V, addG_C, addG_S], ?_, q, rfl, hq, ?_, f0, ?_, ?_, ?_⟩
      · have : bm (fun a_1 => gS (addG G k x y h a) a_1 (gN G)) (gN (addG G k x y h a)) = bm (fun _ => false) (gN (addG G k x y h a)) := bm_congr (fun t _ => by simp [addG_K, addG_V, addG_C, addG_S])
        rw [this, bm_0]
      · rw [hc]; simp [addG_K, addG_V, addG_C, addG_S]
      · rw [f1]; simp [addG_K, addG_V, addG_C, addG_S]
      · rw [f2]; simp [addG_K, addG_V, addG_C, addG_S]
      · rw [f3]; simp [addG_K, addG_V, addG_C, addG_S]
    · have hi' : i < gN G := by
        have : i < gN G + 1 := hi
        omega
      obtain ⟨b1, b2, o, b3, b4, b5, b6⟩ := h6 i hi'
      rw [if_neg c, if_neg c, if_neg c]
      have c' : ¬ i = gN G := c
      refine ⟨b1.trans (by simp [addG_K, addG_V, addG_C, addG_S, c']), ?_, o, b3, hk.1.m b4, ?_, ?_⟩
      · rw [b2]
        refine (bm_more _ (fun t ht => ?_) ?_).symm
        · have : ¬ t = gN G := by omega
          simp [addG_K, addG_V, addG_C, addG_S, this, c']
        · simp [addG_S]
      · rw [hk.1.eq b4 b5]; simp [addG_K, addG_V, addG_C, addG_S, c']
      · rw [(hk.2 7 o b4 (n7 (by decide))).1]
        simp only [addG_V, c', if_false]
        exact b6
theorem tok {K : Nat → XSh → XSt → Prop} {k : Nat} {x1 x2 x3 x4 : Int32} {δ : XSh} {σ : XSt} (hk : k ≤ 6) (h : ∀ q δ1 σ1, NewT (5 + k) x1 x2 x3 x4 δ σ q δ1 σ1 → K q δ1 σ1) : xw_S_thingOfKind K (nI k) x1 x2 x3 x4 δ σ := by
  have ne : ∀ k, k ≤ 6 → ∀ c, c ≤ 6 → nI k = nI c → k = c := fun k h1 c h2 e => (nI_eq (by omega) (by omega)).mp e
  have out : ∀ k, k ≤ 6 → (nI k < 1 ∨ 6 < nI k) → k = 0 := by decide
  unfold xw_S_thingOfKind
  refine ⟨fun z => ?_, fun z => ?_, fun z => ?_, fun z => ?_, fun z => ?_, fun z => ?_, fun z => ?_⟩
  · have := out k hk z; subst this; exact h
  · have := ne k hk 1 (by decide) z; subst this; exact h
  · have := ne k hk 2 (by decide) z; subst this; exact h
  · have := ne k hk 3 (by decide) z; subst this; exact h
  · have := ne k hk 4 (by decide) z; subst this; exact h
  · have := ne k hk 5 (by decide) z; subst this; exact h
  · have := ne k hk 6 (by decide) z; subst this; exact h
theorem xp_add {G : Gd} {δ : XSh} {σ : XSt} {g k : Nat} {x y h a : Int32} {K : Int32 → XSh → XSt → Prop} (hR : RC G δ σ g) (hi : gI δ g) (hn : gN G < 8) (hk : k ≤ 6) (hK : ∀ δ1 σ', RC (addG G k x y h a) δ1 σ' g → Kp g δ σ δ1 σ' → (∀ t, t < gN G → σ'.2.2 8 g t = σ.2.2 8 g t) → K (nI (gN G)) δ1 σ') : xw_G_add K g (nI k) x y h a δ σ := by
  unfold xw_G_add
  have c8 : (σ.1 6 g 0).toNatClampNeg = gN G := by rw [hR.1, pcl hn]
  refine tok hk (fun q δ1 σ1 hN => ?_)
  obtain ⟨hA, hF, r1, r2, r3, r4, r5, r6⟩ := hN
  have a6 := (hA.2 (6, g) hi.1).1
  have a8 := (hA.2 (8, g) hi.2.1).2.2
  have a9 := (hA.2 (9, g) hi.2.2.1).1
  have a10 := (hA.2 (10, g) hi.2.2.2).1
  rw [c8, hR.1]
  rw [hR.1] at r3
  refine ⟨pin hn, ?_⟩
  intro s9 e9
  have b6 : s9.1 6 g = σ.1 6 g := by rw [e9]; exact a6
  rw [b6, c8, hR.1]
  refine ⟨pin hn, ?_⟩
  intro s11 e11
  have d6 : s11.1 6 g = σ.1 6 g := by rw [e11, tI_n _ _ _ (fun z => absurd z.1 (by decide)), b6]
  rw [d6, c8, hR.1]
  refine ⟨pin hn, ?_⟩
  intro s13 e13
  have f6 : s13.1 6 g = σ.1 6 g := by rw [e13, tI_n _ _ _ (fun z => absurd z.1 (by decide)), d6]
  intro s14 e14
  rw [f6, hR.1]
  have k14 : Kp g δ1 σ1 δ1 s14 := by
    rw [e14, e13, e11, e9]
    exact (((Kp.tP ig8).tr (Kp.tI ig9)).tr (Kp.tI ig10)).tr (Kp.tI ig6)
  have kk : Kp g δ σ δ1 s14 := hA.kp.tr k14
  have g7 : s14.1 7 q = σ1.1 7 q := (k14.2 7 q r1 (n7 (by decide))).1
  have g8 : ∀ t, s14.2.2 8 g t = if t = gN G then some q else σ.2.2 8 g t := by
    intro t
    rw [e14, e13, e11, e9]
    show (tP σ1 8 g (gN G) (some q)).2.2 8 g t = _
    rw [tP_s, vup_e, a8]
  have g9 : ∀ t, s14.1 9 g t = if t = gN G then h else σ.1 9 g t := by
    intro t
    rw [e14, tI_n _ _ _ (fun z => absurd z.1 (by decide)), e13, tI_n _ _ _ (fun z => absurd z.1 (by decide)), e11, tI_s, upd_e]
    rw [e9]
    show (if t = gN G then h else σ1.1 9 g t) = _
    rw [a9]
  have g10 : ∀ t, s14.1 10 g t = if t = gN G then 0 else σ.1 10 g t := by
    intro t
    rw [e14, tI_n _ _ _ (fun z => absurd z.1 (by decide)), e13, tI_s, upd_e]
    have : s11.1 10 g = σ.1 10 g := by rw [e11, tI_n _ _ _ (fun z => absurd z.1 (by decide)), e9]; exact a10
    rw [this]
  have g0 : s14.1 6 g 0 = nI (gN G + 1) := by rw [e14, tI_s, pk_us, f6, hR.1, nI_1]
  have g6 : ∀ j, j ≠ 0 → s14.1 6 g j = σ.1 6 g j := fun j hj => by rw [e14, tI_s, pk_un hj, f6]
  refine hK δ1 s14 (hR.add hi kk g0 g6 g8 g9 g10 r1 r2 ?_ ?_ ?_ ?_) kk (fun t ht => ?_)
  · rw [g7]; exact r3
  · rw [g7]; exact r4
  · rw [g7]; exact r5
  · rw [g7]; exact r6
  · rw [g8 t, if_neg (by omega)]
theorem bm_clr0 {p : Nat → Bool} {n : Nat} (hn : n < 32) : bm p n &&& (((1 : Int32) <<< (nI n &&& 31)) ^^^ (-1)) = bm p n := b_ext (fun i hi => by
  rw [bt_clr _ hn hi, bm_bt _ (by omega) hi]
  by_cases q : i = n
  · subst q; simp
  · simp [q])
theorem RM.atn {G : Gd} {σm : MSt} {a : Nat} {v : Int32} (h : RM G σm) : RM G (sI σm a (gN G) v) := by
  obtain ⟨h0, h1, h2, h3, h4, h5⟩ := h
  have e : ∀ b t, t < gN G → (sI σm a (gN G) v).2.1 b t = σm.2.1 b t := by
    intro b t ht
    by_cases q : b = a
    · subst q; rw [sI_s, pk_un (by omega)]
    · rw [sI_n _ _ _ q]
  refine ⟨h0, h1, h2, h3, h4, fun t ht => ?_⟩
  rw [e _ t ht, e _ t ht, e _ t ht, e _ t ht, e _ t ht, e _ t ht, e _ t ht]
  exact h5 t ht
theorem mp_adds8 {G : Gd} {σm : MSt} {k : Nat} {x y h a : Int32} {K : Int32 → MSt → Prop} (hR : RM G σm) (hn : gN G < 8) (hK : ∀ u, RM (addG G k x y h a) u → Mg σm u → (∀ b t, b ≠ 13 → t ≠ gN G → u.2.1 b t = σm.2.1 b t) → RM G (sF u 0 (nI (gN G))) → (∀ c, c ≠ 0 → u.1 c = σm.1 c) → u.2.2 = σm.2.2 → (∀ b, ¬ (7 ≤ b ∧ b ≤ 13) → u.2.1 b = σm.2.1 b) → K (nI (gN G)) u) : mw_adds K (nI k) x y h a σm := by
  unfold mw_adds
  have c8 : (σm.1 0).toNatClampNeg = gN G := by rw [hR.1, pcl hn]
  have p8 : vp_in (σm.1 0) 8 := by rw [hR.1]; exact pin hn
  refine ⟨p8, ?_⟩
  rw [c8]
  intro s2 e2
  have z2 : s2.1 = σm.1 := by rw [e2]; rfl
  rw [z2, c8]
  refine ⟨p8, ?_⟩
  intro s4 e4
  have z4 : s4.1 = σm.1 := by rw [e4]; exact z2
  rw [z4, c8]
  refine ⟨p8, ?_⟩
  intro s6 e6
  have z6 : s6.1 = σm.1 := by rw [e6]; exact z4
  rw [z6, c8]
  refine ⟨p8, ?_⟩
  intro s8 e8
  have z8 : s8.1 = σm.1 := by rw [e8]; exact z6
  rw [z8, c8]
  refine ⟨p8, ?_⟩
  intro s10 e10
  have z10 : s10.1 = σm.1 := by rw [e10]; exact z8
  rw [z10, c8]
  refine ⟨p8, ?_⟩
  intro s12 e12
  have z12 : s12.1 = σm.1 := by rw [e12]; exact z10
  rw [z12, c8]
  refine ⟨p8, ?_⟩
  intro s14 e14
  have z14 : s14.1 = σm.1 := by rw [e14]; exact z12
  have r14 : RM G s14 := by
    rw [e14, e12, e10, e8, e6, e4, e2]
    exact hR.atn.atn.atn.atn.atn.atn.atn
  have m14 : Mg σm s14 := by
    rw [e14, e12, e10, e8, e6, e4, e2]
    exact ((((((Mg.sI (by decide)).tr (Mg.sI (by decide))).tr (Mg.sI (by decide))).tr (Mg.sI (by decide))).tr (Mg.sI (by decide))).tr (Mg.sI (by decide))).tr (Mg.sI (by decide))
  have o14 : ∀ b t, t ≠ gN G → s14.2.1 b t = σm.2.1 b t := by
    intro b t ht
    have st : ∀ (u : MSt) (c : Nat) (v : Int32), (sI u c (gN G) v).2.1 b t = u.2.1 b t := by
      intro u c v
      by_cases q : b = c
      · subst q; rw [sI_s, pk_un ht]
      · rw [sI_n _ _ _ q]
    rw [e14, st, e12, st, e10, st, e8, st, e6, st, e4, st, e2, st]
  have w14 : ∀ b, ¬ (7 ≤ b ∧ b ≤ 13) → s14.2.1 b = σm.2.1 b := fun b hb => by
    rw [e14, sI_n _ _ _ (by omega), e12, sI_n _ _ _ (by omega), e10, sI_n _ _ _ (by omega), e8, sI_n _ _ _ (by omega), e6, sI_n _ _ _ (by omega), e4, sI_n _ _ _ (by omega), e2, sI_n _ _ _ (by omega)]
  have n7 : s14.2.1 7 (gN G) = nI k := by rw [e14, sI_n _ _ _ (by decide), e12, sI_n _ _ _ (by decide), e10, sI_n _ _ _ (by decide), e8, sI_n _ _ _ (by decide), e6, sI_n _ _ _ (by decide), e4, sI_n _ _ _ (by decide), e2, sI_s, pk_us]
  have n8 : s14.2.1 8 (gN G) = x := by rw [e14, sI_n _ _ _ (by decide), e12, sI_n _ _ _ (by decide), e10, sI_n _ _ _ (by decide), e8, sI_n _ _ _ (by decide), e6, sI_n _ _ _ (by decide), e4, sI_s, pk_us]
  have n9 : s14.2.1 9 (gN G) = y := by rw [e14, sI_n _ _ _ (by decide), e12, sI_n _ _ _ (by decide), e10, sI_n _ _ _ (by decide), e8, sI_n _ _ _ (by decide), e6, sI_s, pk_us]
  have n10 : s14.2.1 10 (gN G) = h := by rw [e14, sI_n _ _ _ (by decide), e12, sI_n _ _ _ (by decide), e10, sI_n _ _ _ (by decide), e8, sI_s, pk_us]
  have n11 : s14.2.1 11 (gN G) = a := by rw [e14, sI_n _ _ _ (by decide), e12, sI_n _ _ _ (by decide), e10, sI_s, pk_us]
  have n12 : s14.2.1 12 (gN G) = 0 := by rw [e14, sI_n _ _ _ (by decide), e12, sI_s, pk_us]
  have n13 : s14.2.1 13 (gN G) = 0 := by rw [e14, sI_s, pk_us]
  have j14 : s14.2.2 = σm.2.2 := by rw [e14, e12, e10, e8, e6, e4, e2]; rfl
  clear e2 e4 e6 e8 e10 e12 e14
  refine lpU (fun n (u : MSt) i => mw_adds_75 K n i u) (fun t u => RM G u ∧ Mg σm u ∧ u.1 = σm.1 ∧ u.2.2 = σm.2.2 ∧ (∀ b t, b ≠ 13 → u.2.1 b t = s14.2.1 b t) ∧ u.2.1 13 (gN G) = 0) (gN G) s14 ⟨r14, m14, z14, j14, fun _ _ _ => rfl, n13⟩ ?_ ?_
  · rintro n u ⟨u1, u2, u3, u4, u5, u6⟩
    show mw_adds_75_b K (mw_adds_75 K n) (nI (gN G)) u
    unfold mw_adds_75_b
    rw [u1.1]
    refine br_t (nI_le (Nat.le_refl _) (by omega)) ?_
    rintro s2 rfl
    refine hK _ ?_ (u2.tr (Mg.sF (by decide))) (fun b t hb ht => (u5 b t hb).trans (o14 b t ht)) ?_ (fun c hc => ?_) u4 (fun b hb => funext (fun t => (u5 b t (by omega)).trans (congrFun (w14 b hb) t)))
    · obtain ⟨h0, h1, h2, h3, h4, h5⟩ := u1
      refine ⟨?_, h1, h2, h3, h4, fun i hi => ?_⟩
      · rw [sF_s, nI_1]
        rfl
      · show (u.2.1 7 i = _) ∧ (u.2.1 8 i = _) ∧ (u.2.1 9 i = _) ∧ (u.2.1 10 i = _) ∧ (u.2.1 11 i = _) ∧ (u.2.1 12 i = _) ∧ (u.2.1 13 i = _)
        by_cases c : i = gN G
        · rw [u5 7 i (by decide), u5 8 i (by decide), u5 9 i (by decide), u5 10 i (by decide), u5 11 i (by decide), u5 12 i (by decide)]
          subst c
          rw [n7, n8, n9, n10, n11, n12, u6]
          refine ⟨by simp [addG_K, addG_V, addG_C, addG_S], by simp [addG_K, addG_V, addG_C, addG_S], by simp [addG_K, addG_V, addG_C, addG_S], by simp [addG_K, addG_V, addG_C, addG_S], by simp [addG_K, addG_V, addG_C, addG_S], by simp [addG_K, addG_V, addG_C, addG_S, bI], ?_⟩
          have : bm (gS (addG G k x y h a) (gN G)) (gN (addG G k x y h a)) = bm (fun _ => false) (gN (addG G k x y h a)) := bm_congr (fun t _ => by simp [addG_K, addG_V, addG_C, addG_S])
          rw [this, bm_0]
        · have c' : ¬ i = gN G := c
          have hi' : i < gN G := by
            have : i < gN G + 1 := hi
            omega
          obtain ⟨a1, a2, a3, a4, a5, a6, a7⟩ := h5 i hi'
          refine ⟨a1.trans (by simp [addG_K, addG_V, addG_C, addG_S, c']), a2.trans (by simp [addG_K, addG_V, addG_C, addG_S, c']), a3.trans (by simp [addG_K, addG_V, addG_C, addG_S, c']), a4.trans (by simp [addG_K, addG_V, addG_C, addG_S, c']), a5.trans (by simp [addG_K, addG_V, addG_C, addG_S, c']), a6.trans (by simp [addG_K, addG_V, addG_C, addG_S, c']), a7.trans ?_⟩
          refine (bm_more _ (fun t ht => ?_) ?_).symm
          · have : ¬ t = gN G := by omega
            simp [addG_K, addG_V, addG_C, addG_S, this, c']
          · simp [addG_S]
    · obtain ⟨h0, h1, h2, h3, h4, h5⟩ := u1
      exact ⟨sF_s _ _ _, h1, h2, h3, h4, h5⟩
    · rw [sF_n _ _ hc, u3]
  · rintro n t u ht ⟨u1, u2, u3, u4, u5, u6⟩ L
    have t8 : t < 8 := by omega
    show mw_adds_75_b K (mw_adds_75 K n) (nI t) u
    unfold mw_adds_75_b
    obtain ⟨-, -, -, -, -, -, k13⟩ := u1.2.2.2.2.2 t ht
    rw [u1.1, pcl t8, k13, bm_clr0 (by omega)]
    refine br_f (nI_ge ht (by omega)) ⟨pin t8, pin t8, ?_⟩
    rintro s5 rfl
    refine L _ ⟨?_, u2.tr (Mg.sI (by decide)), u3, u4, fun b t' hb => ?_, ?_⟩
    · exact u1.shu (i := t) (f := gS G) (fun _ _ _ _ _ => rfl) rfl
    · rw [sI_n _ _ _ hb]; exact u5 b t' hb
    · rw [sI_s, pk_un (by omega)]; exact u6
theorem mp_adds {G : Gd} {σm : MSt} {k : Nat} {x y h a : Int32} {K : Int32 → MSt → Prop} (hR : RM G σm) (hn : gN G < 8) (hK : ∀ u, RM (addG G k x y h a) u → Mg σm u → (∀ b t, b ≠ 13 → t ≠ gN G → u.2.1 b t = σm.2.1 b t) → RM G (sF u 0 (nI (gN G))) → (∀ c, c ≠ 0 → u.1 c = σm.1 c) → u.2.2 = σm.2.2 → K (nI (gN G)) u) : mw_adds K (nI k) x y h a σm := mp_adds8 hR hn (fun u a b c d e f _ => hK u a b c d e f)
theorem gW.add {G : Gd} (h : gW G) (hn : gN G < 8) {k a b c d : Nat} (hk : k ≤ 6) (ha : a ≤ 9) (hb : b ≤ 9) (hc : c ≤ 20) (hd : d ≤ 9) (hat : atI G (nI a) (nI b) = -1) : gW (addG G k (nI a) (nI b) (nI c) (nI d)) := by
  have free : ∀ t, t < gN G → ¬ (gV G 1 t = nI a ∧ gV G 2 t = nI b) := by
    intro t ht z
    have := fst_m1 (by omega) hat t ht
    unfold atB at this
    simp [z.1, z.2] at this
  obtain ⟨h1, h2, h3, h4, h5⟩ := h
  refine ⟨by show gN G + 1 ≤ 8; omega, h2, h3, fun i hi => ?_, fun i j hi hj e1 e2 => ?_⟩
  · by_cases q : i = gN G
    · subst q
      refine ⟨by simp [addG_K, addG_V, addG_C, addG_S, hk], ⟨a, ha, by simp [addG_K, addG_V, addG_C, addG_S]⟩, ⟨b, hb, by simp [addG_K, addG_V, addG_C, addG_S]⟩, ⟨d, hd, by simp [addG_K, addG_V, addG_C, addG_S]⟩, ⟨c, hc, by simp [addG_K, addG_V, addG_C, addG_S]⟩⟩
    · have hi' : i < gN G := by
        have : i < gN G + 1 := hi
        have q' : ¬ i = gN G := q
        omega
      have := h4 i hi'
      simpa [addG_K, addG_V, q] using this
  · have hi0 : i < gN G + 1 := hi
    have hj0 : j < gN G + 1 := hj
    by_cases qi : i = gN G
    · by_cases qj : j = gN G
      · omega
      · exfalso
        have qj' : ¬ j = gN G := qj
        have hj' : j < gN G := by omega
        subst qi
        simp [addG_K, addG_V, addG_C, addG_S, qj] at e1 e2
        exact free j hj' ⟨e1.symm, e2.symm⟩
    · have qi' : ¬ i = gN G := qi
      have hi' : i < gN G := by omega
      by_cases qj : j = gN G
      · exfalso
        subst qj
        simp [addG_K, addG_V, addG_C, addG_S, qi] at e1 e2
        exact free i hi' ⟨e1, e2⟩
      · have qj' : ¬ j = gN G := qj
        have hj' : j < gN G := by omega
        simp [addG_K, addG_V, addG_C, addG_S, qi, qj] at e1 e2
        exact h5 i j hi' hj' e1 e2
