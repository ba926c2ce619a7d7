/-! cheapest, shuts -/
/-- those whose sights into a house have to be shut -/
def tsB (G : Gd) (j i : Nat) : Bool := srB G j i && !decide (nI i = kp G j)
/-- a house that can't be right -/
def nvB (G : Gd) (j : Nat) : Bool := hs G j && !decide (gK G j = 4) && decide (sr G j = 0)
def cC (G : Gd) (j : Nat) (n : Nat) : Int32 := su (fun i => if tsB G j i = true then cs G i j else 0) n
def cM (G : Gd) (j : Nat) (n : Nat) : Int32 := su (fun i => bI (tsB G j i)) n
def ctot (G : Gd) (n : Nat) : Int32 := su (fun j => if hs G j = true then cC G j (gN G) else 0) n
def mtot (G : Gd) (n : Nat) : Int32 := su (fun j => if hs G j = true then cM G j (gN G) else 0) n
theorem dz_none {G : Gd} {j : Nat} : ∀ {k : Nat}, k ≤ 8 → (dz G j k = -1 ↔ ∀ t, t < k → srB G j t = false)
  | 0, _ => ⟨fun _ t h => by omega, fun _ => rfl⟩
  | k + 1, h => by
    rw [dz_s]
    by_cases c : srB G j k = true ∧ (dz G j k = -1 ∨ ¬ cs G k j ≤ cs G (dz G j k).toNatClampNeg j)
    · rw [if_pos c]
      refine ⟨fun z => absurd z (nI_m1 (by omega)), fun z => ?_⟩
      have := z k (by omega)
      rw [c.1] at this
      cases this
    · rw [if_neg c]
      constructor
      · intro z t ht
        by_cases q : t = k
        · subst q
          cases e : srB G j t with
          | false => rfl
          | true => exact absurd ⟨e, Or.inl z⟩ c
        · exact (dz_none (by omega)).mp z t (by omega)
      · intro z
        exact (dz_none (by omega)).mpr (fun t ht => z t (by omega))
theorem kp_none {G : Gd} {j : Nat} (hn : gN G ≤ 8) (h4 : ¬ gK G j = 4) : kp G j = -1 ↔ sr G j = 0 := by
  unfold kp
  rw [if_neg h4]
  have e : sr G j = 0 ↔ fst (srB G j) (gN G) 0 = -1 := bm_z hn
  rw [e, dz_none hn]
  constructor
  · intro h
    exact fst_none (fun k _ hk => h k (by omega))
  · intro h t ht
    exact fst_m1 hn h t ht
theorem kp_lt {G : Gd} {j : Nat} (hn : gN G ≤ 8) : kp G j = -1 ∨ ∃ t, t < gN G ∧ kp G j = nI t := by
  unfold kp
  by_cases h4 : gK G j = 4
  · rw [if_pos h4]; exact Or.inl rfl
  · rw [if_neg h4]
    rcases dz_lt G j (gN G) hn with e | ⟨t, h1, h2, -⟩
    · exact Or.inl e
    · exact Or.inr ⟨t, h1, h2⟩
section PG
variable {G : Gd} {tr x w : Nat} {sh : Nat → Nat} {δ : XSh} {σ : XSt} {σm : MSt} {i j g : Nat} {K : Int32 → Prop}
theorem xp_canBe (hU : gU G) (hR : RC G δ σ g) (hj : j < gN G) (hK : K (bI (!(!decide (gK G j = 4) && decide (sr G j = 0))))) : xw_G_canBe δ σ K g (nI j) := by
  have hn : gN G ≤ 8 := hU.1
  have g8 : j < 8 := by omega
  obtain ⟨-, -, o, e8, -, ec, -⟩ := hR.2.2.2.2.2.2 j hj
  unfold xw_G_canBe
  rw [pcl g8]
  refine ⟨pin g8, o, e8, xp_v_wanted ec (hU.2.2.1 j hj).1 ?_⟩
  rw [wt_0]
  refine ⟨fun c => ?_, fun c => xp_seers hU hR hj ⟨fun d => ?_, fun d => ?_⟩⟩
  · simpa [c, bI] using hK
  · simpa [c, d, bI] using hK
  · simpa [c, d, bI] using hK
theorem ts_mask (hn : gN G ≤ 8) : (¬ kp G j = -1 → sr G j &&& (((1 : Int32) <<< (kp G j &&& 31)) ^^^ (-1)) = bm (tsB G j) (gN G)) ∧ (kp G j = -1 → sr G j = bm (tsB G j) (gN G)) := by
  refine ⟨fun c => ?_, fun c => ?_⟩
  · rcases kp_lt (G := G) (j := j) hn with e | ⟨t, ht, e⟩
    · exact absurd e c
    · rw [e]
      refine b_ext (fun i hi => ?_)
      rw [bt_clr _ (by omega) hi]
      unfold sr
      rw [bm_bt _ (by omega) hi, bm_bt _ (by omega) hi]
      unfold tsB
      rw [e]
      by_cases q : i < gN G
      · have : (nI i = nI t) = (i = t) := by rw [eq_iff_iff]; exact nI_eq (by omega) (by omega)
        simp [q, this]
      · simp [q]
  · refine bm_congr (fun i hi => ?_)
    unfold tsB
    rw [c]
    have := nI_m1 (t := i) (by omega)
    simp [this]
theorem xp_toShut (hU : gU G) (hR : RC G δ σ g) (hj : j < gN G) (hK : K (bm (tsB G j) (gN G))) : xw_G_toShut δ σ K g (nI j) := by
  have hn : gN G ≤ 8 := hU.1
  unfold xw_G_toShut
  refine xp_keeps hU hR hj (xp_seers hU hR hj ⟨fun c => ?_, fun c => ?_⟩)
  · rw [(ts_mask hn).1 c]; exact hK
  · rw [show (0 : Int32) ^^^ (-1) = -1 from by decide, and_m1, (ts_mask hn).2 c]; exact hK
variable {KX : Int32 → XSh → XSt → Prop}
theorem xp_cheap (h : RQ G w tr sh δ σ σm x) {y : Int32} (hK : KX (if y = 0 then ctot G (gN G) else if y = 1 then bm (nvB G) (gN G) else mtot G (gN G)) δ σ) : ∃ n, xw_S_cheapest_24 KX x n y 0 0 0 0 δ σ := by
  have hn := h.n
  refine lpU (fun n (s : Int32 × Int32 × Int32) i => xw_S_cheapest_24 KX x n y s.1 s.2.1 s.2.2 i δ σ) (fun j s => s = (ctot G j, bm (nvB G) j, mtot G j)) (gN G) (0, 0, 0) rfl ?_ ?_
  · intro n s hs
    subst hs
    show xw_S_cheapest_24_b KX x (xw_S_cheapest_24 KX x n) y (ctot G (gN G)) (bm (nvB G) (gN G)) (mtot G (gN G)) (nI (gN G)) δ σ
    unfold xw_S_cheapest_24_b
    refine ⟨w, h.wE, ?_⟩
    rw [h.rc.1]
    refine br_t (nI_le (Nat.le_refl _) (by omega)) ⟨fun c => ⟨fun d => ?_, fun d => ?_⟩, fun c => ?_⟩
    · rw [if_neg c, if_neg d] at hK; exact hK
    · rw [if_neg c, if_pos d] at hK; exact hK
    · rw [if_pos c] at hK; exact hK
  · intro n j s hj hs L
    subst hs
    show xw_S_cheapest_24_b KX x (xw_S_cheapest_24 KX x n) y (ctot G j) (bm (nvB G) j) (mtot G j) (nI j) δ σ
    unfold xw_S_cheapest_24_b xw_S_cheapest_69
    refine ⟨w, h.wE, ?_⟩
    rw [h.rc.1]
    refine br_f (nI_ge hj (by omega)) (xp_house h.rc h.u hj (bI_if (fun c => L (ctot G j, bm (nvB G) j, mtot G j) ?_) (fun c => xp_canBe h.u h.rc hj ?_)))
    · have e1 : ctot G (j + 1) = ctot G j := by unfold ctot; rw [su_s, c, if_neg (by decide), Int32.add_zero]
      have e2 : mtot G (j + 1) = mtot G j := by unfold mtot; rw [su_s, c, if_neg (by decide), Int32.add_zero]
      rw [e1, e2, ← bm_f (p := nvB G) (k := j) (by simp [nvB, c])]
    · have main : ∀ nv, nv = bm (nvB G) (j + 1) → ∃ o1, σ.2.2 0 x 4 = some o1 ∧ (xw_G_toShut δ σ (fun r2 => xw_Jn_bitCount δ σ (fun r3 => ∃ n', xw_S_cheapest_95 KX x (xw_S_cheapest_24 KX x n) n' y (ctot G j) nv (mtot G j + r3) (nI j) r2 0 δ σ) r2) o1 (nI j)) := by
        intro nv hnv
        refine ⟨w, h.wE, xp_toShut h.u h.rc hj (xp_bitCount (sm_bm _ hn) ?_)⟩
        have ep : pc (bm (tsB G j) (gN G)) = cM G j (gN G) := pc_bm hn
        have e2 : mtot G j + pc (bm (tsB G j) (gN G)) = mtot G (j + 1) := by unfold mtot; rw [su_s, c, if_pos rfl, ep]
        have e1 : ctot G j + cC G j (gN G) = ctot G (j + 1) := by unfold ctot; rw [su_s, c, if_pos rfl]
        rw [e2]
        refine lpU (fun n' v i => xw_S_cheapest_95 KX x (xw_S_cheapest_24 KX x n) n' y v nv (mtot G (j + 1)) (nI j) (bm (tsB G j) (gN G)) i δ σ) (fun i v => v = ctot G j + cC G j i) (gN G) (ctot G j) (by show _ = _ + 0; rw [Int32.add_zero]) ?_ ?_
        · intro m v hv
          show xw_S_cheapest_95_b KX x _ (xw_S_cheapest_95 KX x _ m) y v nv (mtot G (j + 1)) (nI j) (bm (tsB G j) (gN G)) (nI (gN G)) δ σ
          unfold xw_S_cheapest_95_b
          refine ⟨w, h.wE, ?_⟩
          rw [h.rc.1]
          refine br_t (nI_le (Nat.le_refl _) (by omega)) (L (v, nv, mtot G (j + 1)) ?_)
          rw [hv, hnv, e1]
        · intro m i v hi hv L2
          show xw_S_cheapest_95_b KX x _ (xw_S_cheapest_95 KX x _ m) y v nv (mtot G (j + 1)) (nI j) (bm (tsB G j) (gN G)) (nI i) δ σ
          unfold xw_S_cheapest_95_b
          refine ⟨w, h.wE, ?_⟩
          rw [h.rc.1, e_sh hn hi]
          have es : cC G j (i + 1) = cC G j i + (if tsB G j i = true then cs G i j else 0) := rfl
          refine br_f (nI_ge hi (by omega)) (bI_if (fun d => L2 _ ?_) (fun d => xp_cost h.rc hn hi hj (L2 _ ?_)))
          · rw [es, d, if_neg (by decide), hv, Int32.add_zero, Int32.add_zero]
          · rw [es, d, if_pos rfl, hv, Int32.add_assoc]
      refine bI_if (fun d => main _ ?_) (fun d => main _ ?_)
      · refine bm_t (p := nvB G) ?_
        unfold nvB
        rw [c]
        simpa using d
      · refine bm_o (p := nvB G) ?_
        unfold nvB
        rw [c]
        cases h1 : decide (gK G j = 4) <;> cases h2 : decide (sr G j = 0) <;> simp_all
end PG
/-- the ground with sights shut -/
def shF (G : Gd) (b : Bool) (P : Nat → Nat → Bool) : Nat → Nat → Bool := fun a t => gS G a t || (b && hs G t && tsB G t a && P a t)
theorem blk_t (n : Nat) (F : Nat → Int32) (K : Nat → Nat) (V : Nat → Nat → Int32) (C C' : Nat → Bool) (S S' : Nat → Nat → Bool) (i j t : Nat) : ∀ k, blk (n, F, K, V, C, S) i j t k = blk (n, F, K, V, C', S') i j t k
  | 0 => rfl
  | k + 1 => by
    show (blk (n, F, K, V, C, S) i j t k || _) = (blk (n, F, K, V, C', S') i j t k || _)
    rw [blk_t n F K V C C' S S' i j t k]
    rfl
theorem wy_t (n : Nat) (F : Nat → Int32) (K : Nat → Nat) (V : Nat → Nat → Int32) (C C' : Nat → Bool) (S S' : Nat → Nat → Bool) (i j : Nat) : wy (n, F, K, V, C, S) i j = wy (n, F, K, V, C', S') i j := fst_congr (fun t _ _ => blk_t n F K V C C' S S' i j t _)
theorem lk_t (n : Nat) (F : Nat → Int32) (K : Nat → Nat) (V : Nat → Nat → Int32) (C C' : Nat → Bool) (S S' : Nat → Nat → Bool) (i j : Nat) : lk (n, F, K, V, C, S) i j = lk (n, F, K, V, C', S') i j := by
  unfold lk
  rw [wy_t n F K V C C' S S' i j]
  rfl
theorem lk_S (G : Gd) (f : Nat → Nat → Bool) (i j : Nat) : lk (setS G f) i j = lk G i j := lk_t G.1 G.2.1 G.2.2.1 G.2.2.2.1 G.2.2.2.2.1 G.2.2.2.2.1 f G.2.2.2.2.2 i j
theorem lk_C (G : Gd) (f : Nat → Bool) (i j : Nat) : lk (setC G f) i j = lk G i j := lk_t G.1 G.2.1 G.2.2.1 G.2.2.2.1 f G.2.2.2.2.1 G.2.2.2.2.2 G.2.2.2.2.2 i j
theorem sr_col {G : Gd} {f : Nat → Nat → Bool} {j : Nat} (hf : ∀ a, a < gN G → f a j = gS G a j) : sr (setS G f) j = sr G j ∧ (∀ i, i < gN G → srB (setS G f) j i = srB G j i) ∧ kp (setS G f) j = kp G j := by
  have e : ∀ i, i < gN G → srB (setS G f) j i = srB G j i := by
    intro i hi
    show (!decide (i = j) && hs G i && hs G j && (!gC G i && !f i j && lk (setS G f) i j) && !decide (gK G i = 3)) = (!decide (i = j) && hs G i && hs G j && (!gC G i && !gS G i j && lk G i j) && !decide (gK G i = 3))
    rw [hf i hi, lk_S]
  refine ⟨bm_congr e, e, ?_⟩
  have d : ∀ k, k ≤ gN G → dz (setS G f) j k = dz G j k := by
    intro k
    induction k with
    | zero => intro _; rfl
    | succ k ih =>
      intro hk
      rw [dz_s, dz_s, ih (by omega), e k (by omega)]
      rfl
  show (if gK G j = 4 then (-1 : Int32) else dz (setS G f) j (gN G)) = if gK G j = 4 then -1 else dz G j (gN G)
  rw [d _ (Nat.le_refl _)]
section PG2
variable {G : Gd} {σm : MSt} {i j : Nat} {K : MSt → Prop}
theorem sF_n (σm : MSt) {k k' : Nat} (v : Int32) (h : k' ≠ k) : (sF σm k v).1 k' = σm.1 k' := pk_un h
theorem sF_s (σm : MSt) (k : Nat) (v : Int32) : (sF σm k v).1 k = v := pk_us
theorem mp_shutters (hU : gU G) (hR : RM G σm) (b : Bool) (hK : ∀ u, RM (setS G (shF G b (fun _ _ => true))) u → Mg σm u → (b = false → Ms σm u) → u.1 29 = ctot G (gN G) → u.1 30 = bm (nvB G) (gN G) → u.1 31 = mtot G (gN G) → K u) : mw_shutters K (bI b) σm := by
  have hn := hU.1
  unfold mw_shutters
  rintro σ1 rfl σ2 rfl σ3 rfl
  refine lpU (fun n (u : MSt) i => mw_shutters_17 K n (bI b) i u) (fun j u => RM (setS G (shF G b (fun _ t => decide (t < j)))) u ∧ Mg σm u ∧ (b = false → Ms σm u) ∧ u.1 29 = ctot G j ∧ u.1 30 = bm (nvB G) j ∧ u.1 31 = mtot G j) (gN G) _ ⟨?_, ?_, ?_, rfl, rfl, rfl⟩ ?_ ?_
  · exact RM.cgS (G := G) (f := gS G) hR (fun a t _ _ => by simp [shF])
  · exact ((Mg.sF (by decide)).tr (Mg.sF (by decide))).tr (Mg.sF (by decide))
  · exact fun _ => ((Ms.sF (by decide)).tr (Ms.sF (by decide))).tr (Ms.sF (by decide))
  · rintro n u ⟨h1, h2, h3, h4, h5, h6⟩
    show mw_shutters_17_b K (mw_shutters_17 K n) (bI b) (nI (gN G)) u
    unfold mw_shutters_17_b
    have e0 : u.1 0 = nI (gN G) := h1.1
    rw [e0]
    refine br_t (nI_le (Nat.le_refl _) (by omega)) (hK u (RM.cgS (G := G) h1 (fun a t _ ht => ?_)) h2 h3 h4 h5 h6)
    simp [shF, ht]
  · rintro n j u hj ⟨h1, h2, h3, h4, h5, h6⟩ L
    have h8 : j < 8 := by omega
    show mw_shutters_17_b K (mw_shutters_17 K n) (bI b) (nI j) u
    unfold mw_shutters_17_b
    have e0 : u.1 0 = nI (gN G) := h1.1
    have hU1 : gU (setS G (shF G b (fun _ t => decide (t < j)))) := hU
    obtain ⟨c1, c2, c3⟩ := sr_col (G := G) (f := shF G b (fun _ t => decide (t < j))) (j := j) (fun a _ => by simp [shF])
    obtain ⟨k7, -⟩ := h1.2.2.2.2.2 j hj
    rw [e0, pcl h8, k7]
    have e4 : (nI (gK (setS G (shF G b (fun _ t => decide (t < j)))) j) = 4) = (gK G j = 4) := kq (hU.2.2.1 j hj).1 (by decide) rfl
    rw [e4]
    refine br_f (nI_ge hj (by omega)) (mp_isHouse h1 hn hj (hU.2.2.1 j hj).1 (bI_fi (fun c => L u ?_) (fun c => mp_seersOf hU1 h1 hj c (mp_keptOf hU1 h1 hj c ?_))))
    · have c : hs G j = false := c
      refine ⟨RM.cgS (G := G) h1 (fun a t _ ht => ?_), h2, h3, ?_, ?_, ?_⟩
      · unfold shF
        by_cases q : t = j
        · subst q; simp [c]
        · have : (t < j + 1) = (t < j) := by rw [eq_iff_iff]; omega
          simp [this]
      · rw [h4]; unfold ctot; rw [su_s, c, if_neg (by decide), Int32.add_zero]
      · rw [h5]; exact bm_f (by simp [nvB, c])
      · rw [h6]; unfold mtot; rw [su_s, c, if_neg (by decide), Int32.add_zero]
    · have c : hs G j = true := c
      rw [c1, c3]
      have inner : ∀ v : MSt, RM (setS G (shF G b (fun _ t => decide (t < j)))) v → Mg σm v → (b = false → Ms σm v) → v.1 29 = ctot G j → v.1 30 = bm (nvB G) (j + 1) → v.1 31 = mtot G j → ∃ n', mw_shutters_80 K (mw_shutters_17 K n) n' (bI b) (nI j) (sr G j) (kp G j) 0 v := by
        intro v v1 v2 v3 v4 v5 v6
        refine lpU (fun n' (u : MSt) i => mw_shutters_80 K (mw_shutters_17 K n) n' (bI b) (nI j) (sr G j) (kp G j) i u) (fun i u => RM (setS G (shF G b (fun a t => decide (t < j) || (decide (t = j) && decide (a < i))))) u ∧ Mg σm u ∧ (b = false → Ms σm u) ∧ u.1 29 = ctot G j + cC G j i ∧ u.1 30 = bm (nvB G) (j + 1) ∧ u.1 31 = mtot G j + cM G j i) (gN G) v ⟨?_, v2, v3, ?_, v5, ?_⟩ ?_ ?_
        · exact RM.cgS (G := G) v1 (fun a t _ _ => by simp [shF])
        · rw [v4]; show _ = _ + 0; rw [Int32.add_zero]
        · rw [v6]; show _ = _ + 0; rw [Int32.add_zero]
        · rintro m u ⟨u1, u2, u3, u4, u5, u6⟩
          show mw_shutters_80_b K _ (mw_shutters_80 K _ m) (bI b) (nI j) (sr G j) (kp G j) (nI (gN G)) u
          unfold mw_shutters_80_b
          have e0 : u.1 0 = nI (gN G) := u1.1
          rw [e0]
          refine br_t (nI_le (Nat.le_refl _) (by omega)) (L u ⟨RM.cgS (G := G) u1 (fun a t ha _ => ?_), u2, u3, ?_, u5, ?_⟩)
          · unfold shF
            by_cases q : t = j
            · subst q; simp [ha]
            · have : (t < j + 1) = (t < j) := by rw [eq_iff_iff]; omega
              simp [this, q]
          · rw [u4]; unfold ctot; rw [su_s, c, if_pos rfl]
          · rw [u6]; unfold mtot; rw [su_s, c, if_pos rfl]
        · rintro m i u hi ⟨u1, u2, u3, u4, u5, u6⟩ L2
          have i8 : i < 8 := by omega
          show mw_shutters_80_b K _ (mw_shutters_80 K _ m) (bI b) (nI j) (sr G j) (kp G j) (nI i) u
          unfold mw_shutters_80_b
          have e0 : u.1 0 = nI (gN G) := u1.1
          have es : (sr G j >>> (nI i &&& 31)) &&& 1 = bI (srB G j i) := e_sh hn hi
          rw [e0, es]
          have eC : cC G j (i + 1) = cC G j i + (if tsB G j i = true then cs G i j else 0) := rfl
          have eM : cM G j (i + 1) = cM G j i + bI (tsB G j i) := rfl
          have no : tsB G j i = false → RM (setS G (shF G b (fun a t => decide (t < j) || (decide (t = j) && decide (a < i + 1))))) u ∧ Mg σm u ∧ (b = false → Ms σm u) ∧ u.1 29 = ctot G j + cC G j (i + 1) ∧ u.1 30 = bm (nvB G) (j + 1) ∧ u.1 31 = mtot G j + cM G j (i + 1) := by
            intro z
            refine ⟨RM.cgS (G := G) u1 (fun a t _ _ => ?_), u2, u3, ?_, u5, ?_⟩
            · unfold shF
              by_cases q : t = j ∧ a = i
              · obtain ⟨q1, q2⟩ := q; subst q1; subst q2; simp [z]
              · by_cases q1 : t = j
                · have : ¬ a = i := fun q2 => q ⟨q1, q2⟩
                  have : (a < i + 1) = (a < i) := by rw [eq_iff_iff]; omega
                  simp [this]
                · simp [q1]
            · rw [eC, z, if_neg (by decide), Int32.add_zero]; exact u4
            · rw [eM, z, bI_f, Int32.add_zero]; exact u6
          refine br_f (nI_ge hi (by omega)) (bI_if (fun d => L2 u (no (by simp [tsB, d]))) (fun d => ⟨fun f => mp_costOf u1 hn hi hj ?_, fun f => L2 u (no (by simp [tsB, f]))⟩))
          have z : tsB G j i = true := by simp [tsB, d, f]
          rintro σ5 rfl σ6 rfl
          have ecs : cs (setS G (shF G b (fun a t => decide (t < j) || (decide (t = j) && decide (a < i))))) i j = cs G i j := rfl
          rw [ecs]
          have f29 : (sF (sF u 29 (u.1 29 + cs G i j)) 31 ((sF u 29 (u.1 29 + cs G i j)).1 31 + 1)).1 29 = ctot G j + cC G j (i + 1) := by
            rw [sF_n _ _ (by decide), sF_s, eC, z, if_pos rfl, u4, Int32.add_assoc]
          have f31 : (sF (sF u 29 (u.1 29 + cs G i j)) 31 ((sF u 29 (u.1 29 + cs G i j)).1 31 + 1)).1 31 = mtot G j + cM G j (i + 1) := by
            rw [sF_s, sF_n _ _ (by decide), eM, z, bI_t, u6, Int32.add_assoc]
          have f30 : (sF (sF u 29 (u.1 29 + cs G i j)) 31 ((sF u 29 (u.1 29 + cs G i j)).1 31 + 1)).1 30 = bm (nvB G) (j + 1) := by
            rw [sF_n _ _ (by decide), sF_n _ _ (by decide), u5]
          have w1 : RM (setS G (shF G b (fun a t => decide (t < j) || (decide (t = j) && decide (a < i))))) (sF (sF u 29 (u.1 29 + cs G i j)) 31 ((sF u 29 (u.1 29 + cs G i j)).1 31 + 1)) := u1
          have w2 : Mg σm (sF (sF u 29 (u.1 29 + cs G i j)) 31 ((sF u 29 (u.1 29 + cs G i j)).1 31 + 1)) := (u2.tr (Mg.sF (by decide))).tr (Mg.sF (by decide))
          have w3 : b = false → Ms σm (sF (sF u 29 (u.1 29 + cs G i j)) 31 ((sF u 29 (u.1 29 + cs G i j)).1 31 + 1)) := fun q => ((u3 q).tr (Ms.sF (by decide))).tr (Ms.sF (by decide))
          generalize sF (sF u 29 (u.1 29 + cs G i j)) 31 ((sF u 29 (u.1 29 + cs G i j)).1 31 + 1) = v at f29 f30 f31 w1 w2 w3 ⊢
          refine bI_if (fun q => L2 v ⟨RM.cgS (G := G) w1 (fun a t _ _ => by simp [shF, q]), w2, w3, f29, f30, f31⟩) (fun q => ?_)
          obtain ⟨-, -, -, -, -, -, k13⟩ := w1.2.2.2.2.2 i hi
          rw [pcl i8, k13]
          refine ⟨pin i8, pin i8, ?_⟩
          rintro σ10 rfl
          refine L2 _ ⟨?_, w2.tr (Mg.sI (by decide)), fun q' => by (rw [q] at q'; cases q'), f29, f30, f31⟩
          refine w1.shu (i := i) (f := shF G b (fun a t => decide (t < j) || (decide (t = j) && decide (a < i + 1)))) (fun t a _ _ q' => ?_) ?_
          · show _ = shF G b (fun a t => decide (t < j) || (decide (t = j) && decide (a < i))) t a
            unfold shF
            have : (t < i + 1) = (t < i) := by rw [eq_iff_iff]; omega
            simp [this]
          · have := bm_set (p := shF G b (fun a t => decide (t < j) || (decide (t = j) && decide (a < i))) i) (n := gN G) hn hj true
            rw [if_pos rfl] at this
            refine this.trans (bm_congr (fun t _ => ?_))
            unfold shF
            by_cases q' : t = j
            · subst q'
              simp [q, c, z]
            · simp [q']
      refine ⟨pin h8, fun d => inner u h1 h2 h3 h4 ?_ h6, fun d => ⟨fun f => inner u h1 h2 h3 h4 ?_ h6, fun f => ?_⟩⟩
      · rw [h5]; exact bm_f (by simp [nvB, d])
      · rw [h5]
        refine bm_f ?_
        have : ¬ sr G j = 0 := fun z => f ((kp_none hn d).mpr z)
        simp [nvB, this]
      · rintro σ9 rfl
        refine inner _ h1 (h2.tr (Mg.sF (by decide))) (fun q => (h3 q).tr (Ms.sF (by decide))) ?_ ?_ ?_
        · rw [sF_n _ _ (by decide)]; exact h4
        · rw [sF_s, h5]
          refine bm_t ?_
          have : sr G j = 0 := (kp_none hn d).mp f
          simp [nvB, c, d, this]
        · rw [sF_n _ _ (by decide)]; exact h6
end PG2
theorem pl_cheapest : Pl_cheapest RL := by
  intro δ σ σm x h x1
  obtain ⟨G, w, tr, sh, h⟩ := h
  unfold xw_S_cheapest mw_cheapest mw_cheapest_9
  refine xp_in (y := 0) (z := 2) (fun c => xp_need (b := false) (fun _ q δ1 σ1 hN => xp_refuse 5 (by decide) (by decide) h hN (fun σ2 hr => ?_)) (fun z => by cases z)) (fun c d => xp_need (b := true) (fun z => by cases z) (fun _ => xp_cheap h ?_))
  · refine ⟨fun _ => mp_no 5 (by decide) (by decide) ⟨rfl, hr⟩, fun a => ⟨fun b => ?_, fun _ => mp_no 5 (by decide) (by decide) ⟨rfl, hr⟩⟩⟩
    rcases c with c | c
    · exact absurd c a
    · exact absurd b (Int32.not_le.mpr c)
  · refine br_f c (br_t (Int32.not_lt.mp d) (mp_shutters h.u h.rm false (fun u u1 u2 u3 u4 u5 u6 => ?_)))
    have hr := (h.ms (u3 rfl)).rl
    refine ⟨fun a => ⟨fun b => ?_, fun b => ?_⟩, fun a => ?_⟩
    · rw [if_neg a, if_neg b]; exact ⟨u6.symm, hr⟩
    · rw [if_neg a, if_pos b]; exact ⟨u5.symm, hr⟩
    · rw [if_pos a]; exact ⟨u4.symm, hr⟩
