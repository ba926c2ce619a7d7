/-! calls that may be refused -/
section PB
variable {G : Gd} {tr x w : Nat} {sh : Nat → Nat} {δ : XSh} {σ : XSt} {σm : MSt} {K : XSh → XSt → Prop} {X : Nat → XSh → XSt → Prop} {i j g : Nat} {x1 x2 : Int32}
theorem xp_need {b : Bool} {k : Int32} (h0 : b = false → ∀ q δ1 σ1, NewRe k δ σ q δ1 σ1 → X q δ1 σ1) (h1 : b = true → K δ σ) : xw_S_need K X (bI b) k δ σ := bI_fi h0 h1
theorem xp_mustThing (h : RQ G w tr sh δ σ σm x) (h0 : (¬ ∃ i, i < gN G ∧ x1 = nI i) → ∀ q δ1 σ1, NewRe (-nI 1) δ σ q δ1 σ1 → X q δ1 σ1) (h1 : ∀ i, i < gN G → x1 = nI i → K δ σ) : xw_S_mustThing K X x x1 δ σ := by
  refine ⟨w, h.wE, xp_isThing h.rc h.n (fun c => ?_) (fun i hi e => ?_)⟩
  · exact xp_need (b := false) (fun _ => h0 c) (fun z => by cases z)
  · exact xp_need (b := true) (fun z => by cases z) (fun _ => h1 i hi e)
theorem xp_mustHouse (h : RQ G w tr sh δ σ σm x) (h0 : (¬ ∃ i, i < gN G ∧ x1 = nI i) → ∀ q δ1 σ1, NewRe (-nI 1) δ σ q δ1 σ1 → X q δ1 σ1) (h2 : ∀ i, i < gN G → x1 = nI i → hs G i = false → ∀ q δ1 σ1, NewRe (-nI 2) δ σ q δ1 σ1 → X q δ1 σ1) (h1 : ∀ i, i < gN G → x1 = nI i → hs G i = true → K δ σ) : xw_S_mustHouse K X x x1 δ σ := by
  refine xp_mustThing h (fun c q δ1 σ1 hN => h0 c q δ1 σ1 hN) (fun i hi e => ⟨w, h.wE, ?_⟩)
  subst e
  exact xp_house h.rc h.u hi (xp_need (fun c => h2 i hi rfl c) (fun c => h1 i hi rfl c))
theorem xp_mustHouses (h : RQ G w tr sh δ σ σm x) (h0 : (¬ ∃ i j, i < gN G ∧ j < gN G ∧ x1 = nI i ∧ x2 = nI j) → ∀ q δ1 σ1, NewRe (-nI 1) δ σ q δ1 σ1 → X q δ1 σ1) (h2 : ∀ i j, i < gN G → j < gN G → x1 = nI i → x2 = nI j → (hs G i && hs G j) = false → ∀ q δ1 σ1, NewRe (-nI 2) δ σ q δ1 σ1 → X q δ1 σ1)
    (h6 : ∀ i, i < gN G → x1 = nI i → x2 = nI i → hs G i = true → ∀ q δ1 σ1, NewRe (-nI 6) δ σ q δ1 σ1 → X q δ1 σ1) (h1 : ∀ i j, i < gN G → j < gN G → x1 = nI i → x2 = nI j → hs G i = true → hs G j = true → i ≠ j → K δ σ) : xw_S_mustHouses K X x x1 x2 δ σ := by
  have hn := h.n
  unfold xw_S_mustHouses xw_S_mustHouses_26 xw_S_mustHouses_27 xw_S_mustHouses_57 xw_S_mustHouses_58 xw_S_mustHouses_73
  refine ⟨w, h.wE, xp_isThing h.rc hn (fun c => ⟨fun _ => ?_, fun z => absurd rfl z⟩) (fun i hi e => ⟨fun z => absurd z (by decide), fun _ => xp_isThing h.rc hn (fun c => ⟨fun _ => ?_, fun z => absurd rfl z⟩) (fun j hj e' => ⟨fun z => absurd z (by decide), fun _ => ?_⟩)⟩)⟩
  · refine xp_need (b := false) (fun _ => h0 ?_) (fun z => by cases z)
    rintro ⟨i, j, hi, hj, e1, e2⟩
    exact c ⟨i, hi, e1⟩
  · refine xp_need (b := false) (fun _ => h0 ?_) (fun z => by cases z)
    rintro ⟨i, j, hi, hj, e1, e2⟩
    exact c ⟨j, hj, e2⟩
  · refine xp_need (b := true) (fun z => by cases z) (fun _ => ⟨w, h.wE, ?_⟩)
    subst e
    subst e'
    refine xp_house h.rc h.u hi (bI_if (fun c => ?_) (fun c => xp_house h.rc h.u hj (bI_if (fun d => ?_) (fun d => ?_))))
    · exact xp_need (b := false) (fun _ => h2 i j hi hj rfl rfl (by simp [c])) (fun z => by cases z)
    · exact xp_need (b := false) (fun _ => h2 i j hi hj rfl rfl (by simp [d])) (fun z => by cases z)
    · refine xp_need (b := true) (fun z => by cases z) (fun _ => ⟨fun f => ?_, fun f => ?_⟩)
      · obtain rfl := (nI_eq (by omega) (by omega)).mp f
        exact xp_need (b := false) (fun _ => h6 i hi rfl rfl c) (fun z => by cases z)
      · exact xp_need (b := true) (fun z => by cases z) (fun _ => h1 i j hi hj rfl rfl c d (fun q => f (by rw [q])))
variable {KM : Int32 → Prop}
theorem mp_barred_1 (hR : RM G σm) (hU : gU G) (c : ¬ ∃ i, i < gN G ∧ x1 = nI i) (hK : KM (-1)) : mw_barred σm KM x1 :=
  mp_isThing hR hU.1 (fun _ => ⟨fun z => absurd rfl z, fun _ => hK⟩) (fun i hi e => absurd ⟨i, hi, e⟩ c)
theorem mp_thing_t (hR : RM G σm) (hn : gN G ≤ 8) (hi : i < gN G) (hK : KM 1) : mw_isThing σm KM (nI i) := mp_isThing hR hn (fun c => absurd ⟨i, hi, rfl⟩ c) (fun _ _ _ => hK)
theorem mp_thing_f (hR : RM G σm) (hn : gN G ≤ 8) (c : ¬ ∃ i, i < gN G ∧ x1 = nI i) (hK : KM 0) : mw_isThing σm KM x1 := mp_isThing hR hn (fun _ => hK) (fun i hi e => absurd ⟨i, hi, e⟩ c)
theorem mp_barred_h (hR : RM G σm) (hU : gU G) (hi : i < gN G) (hK : KM (if hs G i = true then 0 else -2)) : mw_barred σm KM (nI i) := by
  refine mp_thing_t hR hU.1 hi ⟨fun _ => mp_isHouse hR hU.1 hi (hU.2.2.1 i hi).1 (bI_if (fun c => ?_) (fun c => ?_)), fun z => absurd z (by decide)⟩
  · rw [c] at hK; exact hK
  · rw [c] at hK; exact hK
theorem mp_barredTwo_1 (hR : RM G σm) (hU : gU G) (c : ¬ ∃ i j, i < gN G ∧ j < gN G ∧ x1 = nI i ∧ x2 = nI j) (hK : KM (-1)) : mw_barredTwo σm KM x1 x2 :=
  mp_isThing hR hU.1 (fun _ => ⟨fun _ => hK, fun z => absurd rfl z⟩) (fun i hi e => ⟨fun z => absurd z (by decide), fun _ => mp_isThing hR hU.1 (fun _ => ⟨fun z => absurd rfl z, fun _ => hK⟩) (fun j hj e' => absurd ⟨i, j, hi, hj, e, e'⟩ c)⟩)
theorem mp_barredTwo_h (hR : RM G σm) (hU : gU G) (hi : i < gN G) (hj : j < gN G) (hK : KM (if (hs G i && hs G j) = true then 0 else -2)) : mw_barredTwo σm KM (nI i) (nI j) := by
  refine mp_thing_t hR hU.1 hi ⟨fun z => absurd z (by decide), fun _ => mp_thing_t hR hU.1 hj ⟨fun _ => mp_isHouse hR hU.1 hi (hU.2.2.1 i hi).1 (bI_if (fun c => ?_) (fun c => mp_isHouse hR hU.1 hj (hU.2.2.1 j hj).1 (bI_if (fun d => ?_) (fun d => ?_)))), fun z => absurd z (by decide)⟩⟩
  · rw [c] at hK; exact hK
  · rw [c, d] at hK; exact hK
  · rw [c, d] at hK; exact hK
theorem mp_costOf (hR : RM G σm) (hn : gN G ≤ 8) (hi : i < gN G) (hj : j < gN G) (hK : KM (cs G i j)) : mw_costOf σm KM (nI i) (nI j) := by
  have g8 : j < 8 := by omega
  unfold mw_costOf
  refine mp_distance hR hn hi hj ?_
  rw [pcl g8, (hR.2.2.2.2.2 j hj).2.2.2.2.1]
  exact ⟨pin g8, hK⟩
theorem dz_s (G : Gd) (j k : Nat) : dz G j (k + 1) = if srB G j k = true ∧ (dz G j k = -1 ∨ ¬ cs G k j ≤ cs G (dz G j k).toNatClampNeg j) then nI k else dz G j k := rfl
theorem dz_lt (G : Gd) (j : Nat) : ∀ k, k ≤ 8 → dz G j k = -1 ∨ ∃ t, t < k ∧ dz G j k = nI t ∧ srB G j t = true
  | 0, _ => Or.inl rfl
  | k + 1, h => by
    rw [dz_s]
    by_cases c : srB G j k = true ∧ (dz G j k = -1 ∨ ¬ cs G k j ≤ cs G (dz G j k).toNatClampNeg j)
    · rw [if_pos c]; exact Or.inr ⟨k, by omega, rfl, c.1⟩
    · rw [if_neg c]
      rcases dz_lt G j k (by omega) with e | ⟨t, ht, e⟩
      · exact Or.inl e
      · exact Or.inr ⟨t, by omega, e⟩
theorem mp_keptOf (hU : gU G) (hR : RM G σm) (hj : j < gN G) (qj : hs G j = true) (hK : KM (kp G j)) : mw_keptOf σm KM (nI j) := by
  have hn : gN G ≤ 8 := hU.1
  have g8 : j < 8 := by omega
  unfold mw_keptOf
  refine mp_seersOf hU hR hj qj ?_
  obtain ⟨k7, -⟩ := hR.2.2.2.2.2 j hj
  rw [pcl g8, k7, kq (hU.2.2.1 j hj).1 (show 4 ≤ 6 by decide) (show (4 : Int32) = nI 4 from rfl)]
  unfold kp at hK
  refine ⟨pin g8, fun c => ?_, fun c => ?_⟩
  · rw [if_neg c] at hK
    refine lpU (fun n s i => mw_keptOf_23 σm KM n (nI j) (sr G j) s i) (fun i s => s = dz G j i) (gN G) (-1) rfl ?_ ?_
    · intro n s hs
      show mw_keptOf_23_b _ _ _ _ _ _ _
      unfold mw_keptOf_23_b
      rw [hR.1]
      exact br_t (nI_le (Nat.le_refl _) (by omega)) (by rw [hs]; exact hK)
    · intro n i s hi hs L
      subst hs
      show mw_keptOf_23_b _ _ _ _ _ _ _
      unfold mw_keptOf_23_b
      have es : (sr G j >>> (nI i &&& 31)) &&& 1 = bI (srB G j i) := e_sh hn hi
      rw [hR.1, es]
      refine br_f (nI_ge hi (by omega)) ⟨fun d => L _ ?_, fun d => ⟨fun f => L _ ?_, fun f => ?_⟩⟩
      · have : ¬ srB G j i = true := fun z => d (by rw [z]; rfl)
        rw [dz_s, if_neg (fun z => this z.1)]
      · have : srB G j i = true := by
          cases z : srB G j i with
          | true => rfl
          | false => rw [z] at d; exact absurd d (by decide)
        rw [dz_s, if_pos ⟨this, Or.inl f⟩]
      · have qs : srB G j i = true := by
          cases z : srB G j i with
          | true => rfl
          | false => rw [z] at d; exact absurd d (by decide)
        rcases dz_lt G j i (by omega) with e | ⟨t, ht, e, -⟩
        · exact absurd e f
        · have et : (dz G j i).toNatClampNeg = t := by rw [e, pcl (by omega)]
          refine mp_costOf hR hn hi hj ?_
          rw [e]
          refine mp_costOf hR hn (by omega) hj ⟨fun z => L _ ?_, fun z => L _ ?_⟩
          · rw [dz_s, if_neg, e]
            rintro ⟨-, q | q⟩
            · exact f q
            · rw [et] at q; exact q z
          · rw [dz_s, if_pos ⟨qs, Or.inr (by rw [et]; exact z)⟩]
  · rw [if_pos c] at hK; exact hK
end PB
section PB2
variable {G : Gd} {δ : XSh} {σ : XSt} {K : Int32 → Prop} {i j g : Nat}
theorem xp_dearest (hU : gU G) (hR : RC G δ σ g) (hj : j < gN G) (hK : K (dz G j (gN G))) : xw_G_dearest δ σ K g (nI j) := by
  have hn : gN G ≤ 8 := hU.1
  unfold xw_G_dearest
  refine xp_seers hU hR hj ?_
  refine lpU (fun n s i => xw_G_dearest_11 δ σ K g n (nI j) (sr G j) s i) (fun i s => s = dz G j i) (gN G) (-1) rfl ?_ ?_
  · intro n s hs
    show xw_G_dearest_11_b _ _ _ _ _ _ _ _ _
    unfold xw_G_dearest_11_b
    rw [hR.1]
    exact br_t (nI_le (Nat.le_refl _) (by omega)) (by rw [hs]; exact hK)
  · intro n i s hi hs L
    subst hs
    show xw_G_dearest_11_b _ _ _ _ _ _ _ _ _
    unfold xw_G_dearest_11_b xw_G_dearest_34
    have es : (sr G j >>> (nI i &&& 31)) &&& 1 = bI (srB G j i) := e_sh hn hi
    rw [hR.1, es]
    refine br_f (nI_ge hi (by omega)) (bI_if (fun d => ⟨fun _ => L _ ?_, fun z => absurd rfl z⟩) (fun d => ⟨fun z => absurd z (by decide), fun _ => ⟨fun f => L _ ?_, fun f => ?_⟩⟩))
    · rw [dz_s, if_neg (fun z => by rw [d] at z; exact absurd z.1 (by decide))]
    · rw [dz_s, if_pos ⟨d, Or.inl f⟩]
    · rcases dz_lt G j i (by omega) with e | ⟨t, ht, e, -⟩
      · exact absurd e f
      · have et : (dz G j i).toNatClampNeg = t := by rw [e, pcl (by omega)]
        refine xp_cost hR hn hi hj ?_
        rw [e]
        refine xp_cost hR hn (by omega) hj ⟨fun z => L _ ?_, fun z => L _ ?_⟩
        · rw [dz_s, if_neg, e]
          rintro ⟨-, q | q⟩
          · exact f q
          · rw [et] at q; exact q z
        · rw [dz_s, if_pos ⟨d, Or.inr (by rw [et]; exact z)⟩]
theorem wt_0 (G : Gd) (j : Nat) : (wt G j = 0) = (gK G j = 4) := by
  unfold wt
  by_cases c : gK G j = 4
  · rw [if_pos c]; simp [c]
  · rw [if_neg c]
    simp only [c, eq_iff_iff, iff_false]
    decide
theorem xp_keeps (hU : gU G) (hR : RC G δ σ g) (hj : j < gN G) (hK : K (kp G j)) : xw_G_keeps δ σ K g (nI j) := by
  have hn : gN G ≤ 8 := hU.1
  have g8 : j < 8 := by omega
  obtain ⟨-, -, o, e8, -, ec, -⟩ := hR.2.2.2.2.2.2 j hj
  unfold xw_G_keeps
  rw [pcl g8]
  refine ⟨pin g8, o, e8, xp_v_wanted ec (hU.2.2.1 j hj).1 ?_⟩
  rw [wt_0]
  unfold kp at hK
  refine ⟨fun c => ?_, fun c => ?_⟩
  · rw [if_neg c] at hK; exact xp_dearest hU hR hj hK
  · rw [if_pos c] at hK; exact hK
end PB2
theorem pl_seers : Pl_seers RL := by
  intro δ σ σm x h x1
  obtain ⟨G, w, tr, sh, h⟩ := h
  unfold xw_S_seers mw_seers
  refine xp_mustHouse h (fun c q δ1 σ1 hN => xp_refuse 1 (by decide) (by decide) h hN (fun σ2 hr => ?_)) (fun i hi e c q δ1 σ1 hN => xp_refuse 2 (by decide) (by decide) h hN (fun σ2 hr => ?_)) (fun i hi e c => ⟨w, h.wE, ?_⟩)
  · exact mp_barred_1 h.rm h.u c ⟨fun z => absurd z (by decide), fun _ => mp_no 1 (by decide) (by decide) ⟨rfl, hr⟩⟩
  · subst e
    refine mp_barred_h h.rm h.u hi ?_
    rw [c]
    exact ⟨fun z => absurd z (by decide), fun _ => mp_no 2 (by decide) (by decide) ⟨rfl, hr⟩⟩
  · subst e
    refine xp_seers h.u h.rc hi (mp_barred_h h.rm h.u hi ?_)
    rw [c]
    exact ⟨fun _ => mp_seersOf h.u h.rm hi c ⟨rfl, h.rl⟩, fun z => absurd rfl z⟩
theorem pl_keeps : Pl_keeps RL := by
  intro δ σ σm x h x1
  obtain ⟨G, w, tr, sh, h⟩ := h
  unfold xw_S_keeps mw_keeps
  refine xp_mustHouse h (fun c q δ1 σ1 hN => xp_refuse 1 (by decide) (by decide) h hN (fun σ2 hr => ?_)) (fun i hi e c q δ1 σ1 hN => xp_refuse 2 (by decide) (by decide) h hN (fun σ2 hr => ?_)) (fun i hi e c => ⟨w, h.wE, ?_⟩)
  · exact mp_barred_1 h.rm h.u c ⟨fun z => absurd z (by decide), fun _ => mp_noTen 1 (by decide) (by decide) ⟨rfl, hr⟩⟩
  · subst e
    refine mp_barred_h h.rm h.u hi ?_
    rw [c]
    exact ⟨fun z => absurd z (by decide), fun _ => mp_noTen 2 (by decide) (by decide) ⟨rfl, hr⟩⟩
  · subst e
    refine xp_keeps h.u h.rc hi (mp_barred_h h.rm h.u hi ?_)
    rw [c]
    exact ⟨fun _ => mp_keptOf h.u h.rm hi c ⟨rfl, h.rl⟩, fun z => absurd rfl z⟩
theorem pl_bars : Pl_bars RL := by
  intro δ σ σm x h x1 x2
  obtain ⟨G, w, tr, sh, h⟩ := h
  have hn := h.n
  unfold xw_S_bars mw_bars mw_bars_19
  refine xp_mustHouses h (fun c q δ1 σ1 hN => xp_refuse 1 (by decide) (by decide) h hN (fun σ2 hr => ?_)) (fun i j hi hj e e' c q δ1 σ1 hN => xp_refuse 2 (by decide) (by decide) h hN (fun σ2 hr => ?_)) (fun i hi e e' c q δ1 σ1 hN => xp_refuse 6 (by decide) (by decide) h hN (fun σ2 hr => ?_)) (fun i j hi hj e e' c d ne => ⟨w, h.wE, ?_⟩)
  · exact mp_barredTwo_1 h.rm h.u c ⟨fun _ => ⟨fun z => absurd z (by decide), fun _ => mp_noTen 1 (by decide) (by decide) ⟨rfl, hr⟩⟩, fun z => absurd z (by decide)⟩
  · subst e
    subst e'
    refine mp_barredTwo_h h.rm h.u hi hj ?_
    rw [c]
    exact ⟨fun _ => ⟨fun z => absurd z (by decide), fun _ => mp_noTen 2 (by decide) (by decide) ⟨rfl, hr⟩⟩, fun z => absurd z (by decide)⟩
  · subst e
    subst e'
    refine mp_barredTwo_h h.rm h.u hi hi ?_
    rw [c]
    exact ⟨fun z => absurd rfl z, fun _ => ⟨fun z => absurd rfl z, fun _ => ⟨fun z => absurd z (by decide), fun _ => mp_noTen 6 (by decide) (by decide) ⟨rfl, hr⟩⟩⟩⟩
  · subst e
    subst e'
    have nn : ¬ nI i = nI j := fun z => ne ((nI_eq (by omega) (by omega)).mp z)
    refine xp_bars h.u h.rc hi hj c d (mp_barredTwo_h h.rm h.u hi hj ?_)
    rw [c, d]
    exact ⟨fun z => absurd rfl z, fun _ => ⟨fun _ => ⟨fun _ => mp_inWay h.u h.rm hi hj c d ⟨rfl, h.rl⟩, fun z => absurd rfl z⟩, fun z => absurd z nn⟩⟩
theorem pl_cost : Pl_cost RL := by
  intro δ σ σm x h x1 x2
  obtain ⟨G, w, tr, sh, h⟩ := h
  have hn := h.n
  unfold xw_S_cost mw_cost mw_cost_19
  refine xp_mustHouses h (fun c q δ1 σ1 hN => xp_refuse 1 (by decide) (by decide) h hN (fun σ2 hr => ?_)) (fun i j hi hj e e' c q δ1 σ1 hN => xp_refuse 2 (by decide) (by decide) h hN (fun σ2 hr => ?_)) (fun i hi e e' c q δ1 σ1 hN => xp_refuse 6 (by decide) (by decide) h hN (fun σ2 hr => ?_)) (fun i j hi hj e e' c d ne => ⟨w, h.wE, ?_⟩)
  · exact mp_barredTwo_1 h.rm h.u c ⟨fun _ => ⟨fun z => absurd z (by decide), fun _ => mp_no 1 (by decide) (by decide) ⟨rfl, hr⟩⟩, fun z => absurd z (by decide)⟩
  · subst e
    subst e'
    refine mp_barredTwo_h h.rm h.u hi hj ?_
    rw [c]
    exact ⟨fun _ => ⟨fun z => absurd z (by decide), fun _ => mp_no 2 (by decide) (by decide) ⟨rfl, hr⟩⟩, fun z => absurd z (by decide)⟩
  · subst e
    subst e'
    refine mp_barredTwo_h h.rm h.u hi hi ?_
    rw [c]
    exact ⟨fun z => absurd rfl z, fun _ => ⟨fun z => absurd rfl z, fun _ => ⟨fun z => absurd z (by decide), fun _ => mp_no 6 (by decide) (by decide) ⟨rfl, hr⟩⟩⟩⟩
  · subst e
    subst e'
    have nn : ¬ nI i = nI j := fun z => ne ((nI_eq (by omega) (by omega)).mp z)
    refine xp_cost h.rc hn hi hj (mp_barredTwo_h h.rm h.u hi hj ?_)
    rw [c, d]
    exact ⟨fun z => absurd rfl z, fun _ => ⟨fun _ => ⟨fun _ => mp_costOf h.rm hn hi hj ⟨rfl, h.rl⟩, fun z => absurd rfl z⟩, fun z => absurd z nn⟩⟩
