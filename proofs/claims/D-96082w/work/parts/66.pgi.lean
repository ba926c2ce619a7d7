/-! calls that try -/
theorem RQ.mg {G : Gd} {tr x w : Nat} {sh : Nat → Nat} {δ : XSh} {σ : XSt} {σm u : MSt} (h : RQ G w tr sh δ σ σm x) (hM : RM G u) (hg : Mg σm u) : RQ G w tr sh δ σ u x := h.upd h.1 hM h.rc Kp.rf (Nat.le_refl _) (fun _ _ => rfl) hg
theorem RM.heb {G : Gd} {u : MSt} {i : Nat} {v : Int32} (h : RM (setV G 4 i v) u) : RM G (sI u 10 i (gV G 4 i)) := by
  obtain ⟨h0, h1, h2, h3, h4, h5⟩ := h
  refine ⟨h0, h1, h2, h3, h4, fun t ht => ?_⟩
  obtain ⟨a1, a2, a3, a4, a5, a6, a7⟩ := h5 t ht
  refine ⟨a1, a2, a3, ?_, a5, a6, a7⟩
  rw [sI_s, upd_e]
  have a4 : u.2.1 10 t = if 4 = 4 ∧ t = i then v else gV G 4 t := a4
  by_cases q : t = i
  · rw [if_pos q, q]
  · rw [if_neg q, a4, if_neg (fun z => q z.2)]
section PI
variable {G : Gd} {tr x w : Nat} {sh : Nat → Nat} {δ : XSh} {σ : XSt} {σm : MSt} {x1 : Int32}
/-- the ground that is tried, taken from the present one -/
theorem RQ.take {K : Nat → XSt → Prop} (h : RQ G w tr sh δ σ σm x) (hK : ∀ σ', RC G δ σ' tr → Kp tr δ σ δ σ' → K tr σ') : xw_G_take δ K tr w σ := xp_take h.rc h.gw (fun e => h.ne e.symm) h.n h.1.2.1 hK
theorem h20 {a : Nat} (ha : a ≤ 20) : (20 ≤ nI a) = (a = 20) ∧ (nI a = 20) = (a = 20) := by
  have : ∀ a, a ≤ 20 → ((20 ≤ nI a) ↔ a = 20) ∧ ((nI a = 20) ↔ a = 20) := by decide
  obtain ⟨h1, h2⟩ := this a ha
  exact ⟨by rw [eq_iff_iff]; exact h1, by rw [eq_iff_iff]; exact h2⟩
theorem xp_raises {K : XSh → XSt → Prop} {X : Nat → XSh → XSt → Prop} (h : RQ G w tr sh δ σ σm x) (h0 : (¬ ∃ i, i < gN G ∧ x1 = nI i) → ∀ q δ1 σ1, NewRe (-nI 1) δ σ q δ1 σ1 → X q δ1 σ1) (h2 : ∀ i, i < gN G → x1 = nI i → hs G i = false → ∀ q δ1 σ1, NewRe (-nI 2) δ σ q δ1 σ1 → X q δ1 σ1) (h6 : ∀ i, i < gN G → x1 = nI i → hs G i = true → gV G 4 i = nI 20 → ∀ q δ1 σ1, NewRe (-nI 6) δ σ q δ1 σ1 → X q δ1 σ1)
    (h1 : ∀ i a, i < gN G → x1 = nI i → hs G i = true → gV G 4 i = nI a → a < 20 → ∀ σ', RC (setV G 4 i (nI (a + 1))) δ σ' tr → Kp tr δ σ δ σ' → K δ σ') : xw_S_raises K X x x1 δ σ := by
  have hn := h.n
  unfold xw_S_raises xw_S_raises_24
  refine xp_mustHouse h (fun c q δ1 σ1 hN => h0 c q δ1 σ1 hN) (fun i hi e c q δ1 σ1 hN => h2 i hi e c q δ1 σ1 hN) (fun i hi e c => ⟨w, h.wE, ?_⟩)
  subst e
  have h8 : i < 8 := by omega
  obtain ⟨a, ha, ea⟩ := (h.1.2.2.2.1 i hi).2.2.2.2
  rw [pcl h8, (h.rc.2.2.2.2.2.2 i hi).1, ea, (h20 ha).1]
  refine ⟨pin h8, fun z => ?_, fun z => ?_⟩
  · exact xp_need (b := false) (fun _ => h6 i hi rfl c (by rw [ea, z])) (fun z => by cases z)
  · refine xp_need (b := true) (fun z => by cases z) (fun _ => ⟨tr, h.tE, w, h.wE, h.take (fun σ' c1 k1 => ⟨pin h8, pin h8, ?_⟩)⟩)
    rintro σ10 rfl
    rw [(c1.2.2.2.2.2.2 i hi).1, ea, nI_1]
    exact h1 i a hi rfl c ea (by omega) _ c1.hei (k1.tr (Kp.tI ig9))
end PI
theorem gW.up1 {G : Gd} {i a : Nat} (h : gW G) (ha : a < 20) : gW (setV G 4 i (nI (a + 1))) := h.hei ⟨a + 1, by omega, rfl⟩
theorem ng1000 : ∀ k, 1 ≤ k → k ≤ 7 → (-1000 : Int32) + -nI k = -nI k - 1000 := by
  intro k h1 h2
  have : ∀ k, k ≤ 7 → (-1000 : Int32) + -nI k = -nI k - 1000 := by decide
  exact this k h2
theorem mp_storey {G : Gd} {σm : MSt} {K : Int32 → MSt → Prop} {i a : Nat} (hW : gW G) (hR : RM G σm) (hi : i < gN G) (c : hs G i = true) (ea : gV G 4 i = nI a) (ha : a < 20) (hK : ∀ u, RM G u → Mg σm u → K (pc (rt (setV G 4 i (nI (a + 1)))) - pc (rt G)) u) : mw_storey K (nI i) σm := by
  have hn := hW.1
  have h8 : i < 8 := by omega
  unfold mw_storey mw_storey_24
  refine mp_barred_h hR hW.u hi ?_
  rw [c, pcl h8, (hR.2.2.2.2.2 i hi).2.2.2.1, ea, (h20 (a := a) (by omega)).2]
  refine ⟨fun z => absurd rfl z, fun _ => ⟨pin h8, fun _ => ⟨fun _ => ?_, fun z => absurd rfl z⟩, fun z => by omega⟩⟩
  refine mp_allRight hW.u hR (mp_many (sm_bm _ hn) ⟨pin h8, pin h8, ?_⟩)
  rw [nI_1]
  rintro σ6 rfl
  have r6 : RM (setV G 4 i (nI (a + 1))) (sI σm 10 i (nI (a + 1))) := hR.hei
  refine mp_allRight (hW.up1 ha).u r6 (mp_many (sm_bm _ hn) ⟨pin h8, pin h8, ?_⟩)
  rintro σ11 rfl
  have e11 : (sI σm 10 i (nI (a + 1))).2.1 10 i - 1 = gV G 4 i := by rw [sI_s, pk_us, nI_pred, ea]
  rw [e11]
  exact hK _ r6.heb ((Mg.sI (by decide)).tr (Mg.sI (by decide)))
theorem pl_storey : Pl_storey RL := by
  intro δ σ σm x h x1
  obtain ⟨G, w, tr, sh, h⟩ := h
  unfold xw_S_storey
  refine xp_raises h (fun c q δ1 σ1 hN => xp_refuse 1 (by decide) (by decide) h hN (fun σ2 hr => ?_)) (fun i hi e c q δ1 σ1 hN => xp_refuse 2 (by decide) (by decide) h hN (fun σ2 hr => ?_)) (fun i hi e c d q δ1 σ1 hN => xp_refuse 6 (by decide) (by decide) h hN (fun σ2 hr => ?_)) (fun i a hi e c ea ha σ' c1 k1 => ?_)
  · unfold mw_storey mw_storey_24
    exact mp_barred_1 h.rm h.u c ⟨fun _ => ⟨fun z => absurd z (by decide), fun _ => mp_noMuch 1 (by decide) (by decide) ⟨ng1000 1 (by decide) (by decide), hr⟩⟩, fun z => absurd z (by decide)⟩
  · subst e
    unfold mw_storey mw_storey_24
    refine mp_barred_h h.rm h.u hi ?_
    rw [c]
    exact ⟨fun _ => ⟨fun z => absurd z (by decide), fun _ => mp_noMuch 2 (by decide) (by decide) ⟨ng1000 2 (by decide) (by decide), hr⟩⟩, fun z => absurd z (by decide)⟩
  · subst e
    have hn := h.n
    have h8 : i < 8 := by omega
    unfold mw_storey mw_storey_24
    refine mp_barred_h h.rm h.u hi ?_
    rw [c, pcl h8, (h.rm.2.2.2.2.2 i hi).2.2.2.1, d]
    exact ⟨fun z => absurd rfl z, fun _ => ⟨pin h8, fun z => absurd rfl z, fun _ => ⟨fun z => absurd z (by decide), fun _ => mp_noMuch 6 (by decide) (by decide) ⟨ng1000 6 (by decide) (by decide), hr⟩⟩⟩⟩
  · subst e
    have h' := h.kp k1
    refine ⟨tr, h'.tE, xp_rights (h.1.up1 ha).u c1 ⟨w, h'.wE, xp_rights h.u h'.rc (mp_storey h.1 h.rm hi c ea ha (fun u u1 u2 => ⟨rfl, (h'.mg u1 u2).rl⟩))⟩⟩
/-- how many sights a raised house takes away -/
def bdN (G G1 : Gd) : Int32 := su (fun j => pc (into G j &&& (into G1 j ^^^ (-1)))) (gN G)
theorem into_0 {G : Gd} {j : Nat} (h : hs G j = false) : into G j = 0 := by
  have : into G j = bm (fun _ => false) (gN G) := bm_congr (fun i _ => by simp [inB, h])
  rw [this, bm_0]
theorem pc_0 : pc 0 = 0 := by decide
theorem and_z (x : Int32) : (0 : Int32) &&& x = 0 := b_ext (fun i hi => by rw [b_and, b_0]; rfl)
theorem mp_blinded {G : Gd} {σm : MSt} {K : Int32 → MSt → Prop} {i a : Nat} (hW : gW G) (hR : RM G σm) (hi : i < gN G) (c : hs G i = true) (ea : gV G 4 i = nI a) (ha : a < 20) (hK : ∀ u, RM G u → Mg σm u → K (bdN G (setV G 4 i (nI (a + 1)))) u) : mw_blinded K (nI i) σm := by
  have hn := hW.1
  have h8 : i < 8 := by omega
  unfold mw_blinded mw_blinded_24
  refine mp_barred_h hR hW.u hi ?_
  rw [c, pcl h8, (hR.2.2.2.2.2 i hi).2.2.2.1, ea, (h20 (a := a) (by omega)).2]
  refine ⟨fun z => absurd rfl z, fun _ => ⟨pin h8, fun _ => ⟨fun _ => ?_, fun z => absurd rfl z⟩, fun z => by omega⟩⟩
  refine lpU (fun n (u : MSt) j => mw_blinded_36 K n (nI i) j u) (fun j u => RM G u ∧ Mg σm u ∧ ∀ t, t < j → hs G t = true → u.2.1 32 t = into G t) (gN G) σm ⟨hR, Mg.rf, fun t ht => by omega⟩ ?_ ?_
  · rintro n u ⟨u1, u2, u3⟩
    show mw_blinded_36_b K (mw_blinded_36 K n) (nI i) (nI (gN G)) u
    unfold mw_blinded_36_b
    rw [u1.1, pcl h8, (u1.2.2.2.2.2 i hi).2.2.2.1, ea, nI_1]
    refine br_t (nI_le (Nat.le_refl _) (by omega)) ⟨pin h8, pin h8, ?_⟩
    intro σ4 e4
    have r4 : RM (setV G 4 i (nI (a + 1))) σ4 := by rw [e4]; exact u1.hei
    have g4 : Mg σm σ4 := by rw [e4]; exact u2.tr (Mg.sI (by decide))
    have s4 : ∀ t, t < gN G → hs G t = true → σ4.2.1 32 t = into G t := fun t ht q => by rw [e4, sI_n _ _ _ (by decide)]; exact u3 t ht q
    have v4 : σ4.2.1 10 i - 1 = gV G 4 i := by rw [e4, sI_s, pk_us, nI_pred, ea]
    clear e4
    refine lpU (fun n (v : Int32) j => mw_blinded_88 K n (nI i) v j σ4) (fun j v => v = su (fun j => pc (into G j &&& (into (setV G 4 i (nI (a + 1))) j ^^^ (-1)))) j) (gN G) 0 rfl ?_ ?_
    · intro m v hv
      show mw_blinded_88_b K (mw_blinded_88 K m) (nI i) v (nI (gN G)) σ4
      unfold mw_blinded_88_b
      have e0 : σ4.1 0 = nI (gN G) := r4.1
      rw [e0, pcl h8, v4]
      refine br_t (nI_le (Nat.le_refl _) (by omega)) ⟨pin h8, pin h8, ?_⟩
      rintro σ5 rfl
      rw [hv]
      exact hK _ r4.heb (g4.tr (Mg.sI (by decide)))
    · intro m j v hj hv L
      have j8 : j < 8 := by omega
      show mw_blinded_88_b K (mw_blinded_88 K m) (nI i) v (nI j) σ4
      unfold mw_blinded_88_b
      have e0 : σ4.1 0 = nI (gN G) := r4.1
      rw [e0, pcl j8]
      refine br_f (nI_ge hj (by omega)) (mp_isHouse r4 hn hj (hW.u.2.2.1 j hj).1 (bI_if (fun d => L _ ?_) (fun d => ⟨pin j8, mp_seesInto (hW.up1 ha).u r4 hj d ?_⟩)))
      · have d : hs G j = false := d
        rw [su_s, into_0 d, and_z, pc_0, Int32.add_zero]
        exact hv
      · have d : hs G j = true := d
        rw [s4 j hj d]
        refine mp_many (sm_and (sm_bm _ hn) _) (L _ ?_)
        rw [su_s, hv]
  · rintro n j u hj ⟨u1, u2, u3⟩ L
    have j8 : j < 8 := by omega
    show mw_blinded_36_b K (mw_blinded_36 K n) (nI i) (nI j) u
    unfold mw_blinded_36_b mw_blinded_66
    rw [u1.1]
    have nx : ∀ v, (hs G j = true → v = into G j) → RM G (sI u 32 j v) ∧ Mg σm (sI u 32 j v) ∧ ∀ t, t < j + 1 → hs G t = true → (sI u 32 j v).2.1 32 t = into G t := by
      intro v hv
      refine ⟨u1, u2.tr (Mg.sI (by decide)), fun t ht q => ?_⟩
      rw [sI_s, upd_e]
      by_cases e : t = j
      · subst e; rw [if_pos rfl]; exact hv q
      · rw [if_neg e]; exact u3 t (by omega) q
    refine br_f (nI_ge hj (by omega)) (mp_isHouse u1 hn hj (hW.u.2.2.1 j hj).1 (bI_if (fun d => ⟨pin j8, ?_⟩) (fun d => mp_seesInto hW.u u1 hj d ⟨pin j8, ?_⟩)))
    · rw [pcl j8]
      rintro σ2 rfl
      exact L _ (nx 0 (fun q => by rw [d] at q; cases q))
    · rw [pcl j8]
      rintro σ2 rfl
      exact L _ (nx _ (fun _ => rfl))
theorem pl_blinded : Pl_blinded RL := by
  intro δ σ σm x h x1
  obtain ⟨G, w, tr, sh, h⟩ := h
  have hn := h.n
  unfold xw_S_blinded
  refine xp_raises h (fun c q δ1 σ1 hN => xp_refuse 1 (by decide) (by decide) h hN (fun σ2 hr => ?_)) (fun i hi e c q δ1 σ1 hN => xp_refuse 2 (by decide) (by decide) h hN (fun σ2 hr => ?_)) (fun i hi e c d q δ1 σ1 hN => xp_refuse 6 (by decide) (by decide) h hN (fun σ2 hr => ?_)) (fun i a hi e c ea ha σ' c1 k1 => ?_)
  · unfold mw_blinded mw_blinded_24
    exact mp_barred_1 h.rm h.u c ⟨fun _ => ⟨fun z => absurd z (by decide), fun _ => mp_no 1 (by decide) (by decide) ⟨rfl, hr⟩⟩, fun z => absurd z (by decide)⟩
  · subst e
    unfold mw_blinded mw_blinded_24
    refine mp_barred_h h.rm h.u hi ?_
    rw [c]
    exact ⟨fun _ => ⟨fun z => absurd z (by decide), fun _ => mp_no 2 (by decide) (by decide) ⟨rfl, hr⟩⟩, fun z => absurd z (by decide)⟩
  · subst e
    have h8 : i < 8 := by omega
    unfold mw_blinded mw_blinded_24
    refine mp_barred_h h.rm h.u hi ?_
    rw [c, pcl h8, (h.rm.2.2.2.2.2 i hi).2.2.2.1, d]
    exact ⟨fun z => absurd rfl z, fun _ => ⟨pin h8, fun z => absurd rfl z, fun _ => ⟨fun z => absurd z (by decide), fun _ => mp_no 6 (by decide) (by decide) ⟨rfl, hr⟩⟩⟩⟩
  · subst e
    have h' := h.kp k1
    have fin : mw_blinded (fun r2 u => bdN G (setV G 4 i (nI (a + 1))) = r2 ∧ RL δ σ' u x) (nI i) σm := mp_blinded h.1 h.rm hi c ea ha (fun u u1 u2 => ⟨rfl, (h'.mg u1 u2).rl⟩)
    refine lpU (fun n (v : Int32) j => xw_S_blinded_9 (fun r δ1 σ1 => mw_blinded (fun r2 u => r = r2 ∧ RL δ1 σ1 u x) (nI i) σm) x n v j δ σ') (fun j v => v = su (fun j => pc (into G j &&& (into (setV G 4 i (nI (a + 1))) j ^^^ (-1)))) j) (gN G) 0 rfl ?_ ?_
    · intro m v hv
      show xw_S_blinded_9_b (fun r δ1 σ1 => mw_blinded (fun r2 u => r = r2 ∧ RL δ1 σ1 u x) (nI i) σm) x (xw_S_blinded_9 (fun r δ1 σ1 => mw_blinded (fun r2 u => r = r2 ∧ RL δ1 σ1 u x) (nI i) σm) x m) v (nI (gN G)) δ σ'
      unfold xw_S_blinded_9_b
      refine ⟨w, h'.wE, ?_⟩
      rw [h'.rc.1]
      refine br_t (nI_le (Nat.le_refl _) (by omega)) ?_
      rw [hv]
      exact fin
    · intro m j v hj hv L
      show xw_S_blinded_9_b (fun r δ1 σ1 => mw_blinded (fun r2 u => r = r2 ∧ RL δ1 σ1 u x) (nI i) σm) x (xw_S_blinded_9 (fun r δ1 σ1 => mw_blinded (fun r2 u => r = r2 ∧ RL δ1 σ1 u x) (nI i) σm) x m) v (nI j) δ σ'
      unfold xw_S_blinded_9_b
      refine ⟨w, h'.wE, ?_⟩
      rw [h'.rc.1]
      refine br_f (nI_ge hj (by omega)) (xp_into h.u h'.rc hj ⟨tr, h'.tE, xp_into (h.1.up1 ha).u c1 hj (xp_bitCount (sm_and (sm_bm _ hn) _) (L _ ?_))⟩)
      rw [su_s, hv]
