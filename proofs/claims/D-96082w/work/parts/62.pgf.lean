/-! thingOf, opens, cheapest, shuts -/
theorem RQ.bey {G : Gd} {tr x w : Nat} {sh : Nat → Nat} {δ : XSh} {σ : XSt} {σm : MSt} {K : Int32 → XSt → Prop} (h : RQ G w tr sh δ σ σm x) (hK : ∀ σ2, RL δ σ2 (sI σm 6 5 (σm.2.1 6 5 + 1)) x → K (-nI 5) σ2) : xw_S_beyond δ K x σ := by
  unfold xw_S_beyond
  refine ⟨pin (i := 5) (by decide), pin (i := 5) (by decide), ?_⟩
  rintro σ3 rfl
  exact hK _ (h.ref (by decide) (by decide)).rl
theorem pl_thingOf : Pl_thingOf RL := by
  intro δ σ σm x h x1 x2
  obtain ⟨G, w, tr, sh, h⟩ := h
  have hn := h.n
  unfold xw_S_thingOf mw_thingOf mw_thingOf_18
  refine ⟨w, h.wE, xp_isThing h.rc hn (fun c => ⟨fun z => absurd rfl z, fun _ => h.bey (fun σ2 hr => ?_)⟩) (fun i hi e => ⟨fun _ => ?_, fun z => absurd z (by decide)⟩)⟩
  · exact mp_thing_f h.rm hn c ⟨fun _ => mp_no 5 (by decide) (by decide) ⟨rfl, hr⟩, fun z => absurd rfl z⟩
  · subst e
    have h8 : i < 8 := by omega
    have h6 := (h.u.2.2.1 i hi).1
    obtain ⟨e9, -, o, e8, -, ec, e0, e1, e2, e3⟩ := h.rc.2.2.2.2.2.2 i hi
    obtain ⟨k7, k8, k9, k10, k11, k12, -⟩ := h.rm.2.2.2.2.2 i hi
    rw [pcl h8]
    refine ⟨pin h8, o, e8, ?_⟩
    rw [e1, e2, e3, e9, h.rc.draw, e_sh hn hi, k7, k8, k9, k10, k11, k12]
    refine ⟨fun c => h.bey (fun σ2 hr => ?_), fun c => xp_v_kind ec h6 ?_, fun c => ?_, fun c => ?_, fun c => ⟨pin h8, ?_⟩, fun c => ?_, fun c => xp_tall h.rc h.u hi ?_, fun c => ?_⟩
    · refine mp_thing_t h.rm hn hi ⟨fun z => absurd z (by decide), fun _ => ⟨fun _ => mp_no 5 (by decide) (by decide) ⟨rfl, hr⟩, fun a => ⟨fun b => ?_, fun _ => mp_no 5 (by decide) (by decide) ⟨rfl, hr⟩⟩⟩⟩
      rcases c with c | c
      · exact absurd c a
      · exact absurd b (Int32.not_le.mpr c)
    all_goals
      subst c
      refine mp_thing_t h.rm hn hi ⟨fun z => absurd z (by decide), fun _ => br_f (by decide) (br_t (by decide) ?_)⟩
    · exact ⟨fun z => absurd z (by decide), fun _ => ⟨pin h8, rfl, h.rl⟩, fun z => absurd z (by decide), fun z => absurd z (by decide), fun z => absurd z (by decide), fun z => absurd z (by decide), fun z => absurd z (by decide)⟩
    · exact ⟨fun z => absurd z (by decide), fun z => absurd z (by decide), fun _ => ⟨pin h8, rfl, h.rl⟩, fun z => absurd z (by decide), fun z => absurd z (by decide), fun z => absurd z (by decide), fun z => absurd z (by decide)⟩
    · exact ⟨fun z => absurd z (by decide), fun z => absurd z (by decide), fun z => absurd z (by decide), fun _ => ⟨pin h8, rfl, h.rl⟩, fun z => absurd z (by decide), fun z => absurd z (by decide), fun z => absurd z (by decide)⟩
    · exact ⟨fun z => absurd z (by decide), fun z => absurd z (by decide), fun z => absurd z (by decide), fun z => absurd z (by decide), fun _ => ⟨pin h8, rfl, h.rl⟩, fun z => absurd z (by decide), fun z => absurd z (by decide)⟩
    · exact ⟨fun z => absurd z (by decide), fun z => absurd z (by decide), fun z => absurd z (by decide), fun z => absurd z (by decide), fun z => absurd z (by decide), fun _ => ⟨pin h8, rfl, h.rl⟩, fun z => absurd z (by decide)⟩
    · exact ⟨fun z => absurd z (by decide), fun z => absurd z (by decide), fun z => absurd z (by decide), fun z => absurd z (by decide), fun z => absurd z (by decide), fun z => absurd z (by decide), fun _ => mp_tall h.rm hn hi h6 ⟨rfl, h.rl⟩⟩
    · exact ⟨fun _ => ⟨pin h8, rfl, h.rl⟩, fun z => absurd z (by decide), fun z => absurd z (by decide), fun z => absurd z (by decide), fun z => absurd z (by decide), fun z => absurd z (by decide), fun z => absurd z (by decide)⟩
theorem RC.cgS {G : Gd} {δ : XSh} {σ : XSt} {g : Nat} {f f' : Nat → Nat → Bool} (h : RC (setS G f) δ σ g) (hf : ∀ a t, a < gN G → t < gN G → f a t = f' a t) : RC (setS G f') δ σ g := by
  obtain ⟨h0, h1, h2, h3, h4, h5, h6⟩ := h
  refine ⟨h0, h1, h2, h3, h4, h5, fun t ht => ?_⟩
  obtain ⟨a1, a2, o⟩ := h6 t ht
  exact ⟨a1, a2.trans (bm_congr (fun a ha => hf a t ha ht)), o⟩
theorem RM.cgS {G : Gd} {σm : MSt} {f f' : Nat → Nat → Bool} (h : RM (setS G f) σm) (hf : ∀ a t, a < gN G → t < gN G → f a t = f' a t) : RM (setS G f') σm := by
  obtain ⟨h0, h1, h2, h3, h4, h5⟩ := h
  refine ⟨h0, h1, h2, h3, h4, fun t ht => ?_⟩
  obtain ⟨a1, a2, a3, a4, a5, a6, a7⟩ := h5 t ht
  exact ⟨a1, a2, a3, a4, a5, a6, a7.trans (bm_congr (fun a ha => hf t a ht ha))⟩
theorem bm_0 (n : Nat) : bm (fun _ => false) n = 0 := by
  induction n with
  | zero => rfl
  | succ n ih => show bm _ n ||| _ = 0
                 rw [ih]
                 simp
theorem RM.cgC {G : Gd} {σm : MSt} {f f' : Nat → Bool} (h : RM (setC G f) σm) (hf : ∀ a, a < gN G → f a = f' a) : RM (setC G f') σm := by
  obtain ⟨h0, h1, h2, h3, h4, h5⟩ := h
  refine ⟨h0, h1, h2, h3, h4, fun t ht => ?_⟩
  obtain ⟨a1, a2, a3, a4, a5, a6, a7⟩ := h5 t ht
  exact ⟨a1, a2, a3, a4, a5, a6.trans (by show bI (f t) = bI (f' t); rw [hf t ht]), a7⟩
/-- the ground with all opened -/
def opG (G : Gd) : Gd := setC (setS G (fun _ _ => false)) (fun _ => false)
theorem mp_opens {G : Gd} {σm : MSt} {K : Int32 → MSt → Prop} (hU : gU G) (hR : RM G σm) (hK : ∀ u, RM (opG G) u → Mg σm u → K (su (fun i => pc (bm (gS G i) (gN G))) (gN G) + pc (bm (gC G) (gN G))) u) : mw_opens K σm := by
  have hn := hU.1
  unfold mw_opens
  refine mp_shutMany hR hn (mp_drawnOnes hR hn (mp_many (sm_bm _ hn) ?_))
  generalize su (fun i => pc (bm (gS G i) (gN G))) (gN G) + pc (bm (gC G) (gN G)) = r at hK ⊢
  refine lpU (fun n (u : MSt) i => mw_opens_16 K n r i u) (fun t u => Mg σm u ∧ RM (setC (setS G (fun a b => if a < t then false else gS G a b)) (fun a => if a < t then false else gC G a)) u) (gN G) σm ⟨Mg.rf, ?_⟩ ?_ ?_
  · have := RM.cgC (G := setS G (fun a b => if a < 0 then false else gS G a b)) (f := gC G) (f' := fun a => if a < 0 then false else gC G a) (σm := σm) (RM.cgS (G := G) (f := gS G) (f' := fun a b => if a < 0 then false else gS G a b) hR (fun a t _ _ => by simp)) (fun a _ => by simp)
    exact this
  · rintro n u ⟨g, hu⟩
    show mw_opens_16_b K (mw_opens_16 K n) r (nI (gN G)) u
    unfold mw_opens_16_b
    have e0 : u.1 0 = nI (gN G) := hu.1
    rw [e0]
    refine br_t (nI_le (Nat.le_refl _) (by omega)) (hK u ?_ g)
    have := RM.cgC (G := setS G (fun a b => if a < gN G then false else gS G a b)) (f' := fun _ => false) hu (fun a ha => by
      have ha : a < gN G := ha
      simp [ha])
    exact RM.cgS (G := setC G (fun _ => false)) (f := fun a b => if a < gN G then false else gS G a b) (f' := fun _ _ => false) this (fun a t ha _ => by
      have ha : a < gN G := ha
      simp [ha])
  · rintro n t u ht ⟨g, hu⟩ L
    have h8 : t < 8 := by omega
    show mw_opens_16_b K (mw_opens_16 K n) r (nI t) u
    unfold mw_opens_16_b
    have e0 : u.1 0 = nI (gN G) := hu.1
    rw [e0, pcl h8]
    refine br_f (nI_ge ht (by omega)) ⟨pin h8, ?_⟩
    rintro σ3 rfl
    refine ⟨pin h8, ?_⟩
    rintro σ5 rfl
    refine L _ ⟨(g.tr (Mg.sI (by decide))).tr (Mg.sI (by decide)), ?_⟩
    have s1 := hu.shu (i := t) (v := 0) (f := fun a b => if a < t + 1 then false else gS G a b) (fun a b _ _ q => by
      show (if a < t + 1 then false else gS G a b) = if a < t then false else gS G a b
      have : (a < t + 1) = (a < t) := by rw [eq_iff_iff]; omega
      simp only [this]) (by
      have : bm (fun b => if t < t + 1 then false else gS G t b) (gN G) = bm (fun _ => false) (gN G) := bm_congr (fun b _ => by simp)
      exact ((bm_0 _).symm.trans this.symm))
    exact s1.cur (i := t) (v := 0) (f := fun a => if a < t + 1 then false else gC G a) (fun a _ q => by
      show (if a < t + 1 then false else gC G a) = if a < t then false else gC G a
      have : (a < t + 1) = (a < t) := by rw [eq_iff_iff]; omega
      simp only [this]) (by simp [bI])
theorem xp_opens {G : Gd} {tr x w : Nat} {sh : Nat → Nat} {δ : XSh} {σ : XSt} {σm : MSt} {K : Int32 → XSt → Prop} {r : Int32} (h : RQ G w tr sh δ σ σm x) (KK : ∀ σ', RC (opG G) δ σ' w → Kp w δ σ δ σ' → (∀ t, σ'.2.2 8 w t = σ.2.2 8 w t) → K r σ') : ∃ n, xw_S_opens_21 δ K x n r 0 σ := by
  have hn := h.n
  refine lpU (fun n (u : XSt) i => xw_S_opens_21 δ K x n r i u) (fun t u => Kp w δ σ δ u ∧ u.2 = σ.2 ∧ RC (setS G (fun a b => if b < t then false else gS G a b)) δ u w) (gN G) σ ⟨Kp.rf, rfl, RC.cgS (G := G) (f := gS G) h.rc (fun a t _ _ => by simp)⟩ ?_ ?_
  · rintro n u ⟨k, e2, hu⟩
    show xw_S_opens_21_b δ K x (xw_S_opens_21 δ K x n) r (nI (gN G)) u
    unfold xw_S_opens_21_b
    have e0 : u.1 6 w 0 = nI (gN G) := hu.1
    refine ⟨w, by rw [e2]; exact h.wE, ?_⟩
    rw [e0]
    refine br_t (nI_le (Nat.le_refl _) (by omega)) ?_
    rintro σ3 rfl
    refine KK _ ?_ (k.tr (Kp.tI ig6)) (fun t => by show u.2.2 8 w t = _; rw [e2])
    have c1 := RC.cur (f := fun _ => false) (v := 0) hu (bm_0 _).symm
    exact RC.cgS (G := setC G (fun _ => false)) (f := fun a b => if b < gN G then false else gS G a b) (f' := fun _ _ => false) c1 (fun a t _ ht => by
      have ht : t < gN G := ht
      simp [ht])
  · rintro n t u ht ⟨k, e2, hu⟩ L
    have h8 : t < 8 := by omega
    show xw_S_opens_21_b δ K x (xw_S_opens_21 δ K x n) r (nI t) u
    unfold xw_S_opens_21_b
    have e0 : u.1 6 w 0 = nI (gN G) := hu.1
    refine ⟨w, by rw [e2]; exact h.wE, ?_⟩
    rw [e0, pcl h8]
    refine br_f (nI_ge ht (by omega)) ⟨pin h8, ?_⟩
    rintro σ3 rfl
    refine L _ ⟨k.tr (Kp.tI ig10), e2, ?_⟩
    exact hu.shu (j := t) (v := 0) (f := fun a b => if b < t + 1 then false else gS G a b) (fun b a _ _ q => by
      show (if b < t + 1 then false else gS G a b) = if b < t then false else gS G a b
      have : (b < t + 1) = (b < t) := by rw [eq_iff_iff]; omega
      simp only [this]) (by
      have : bm (fun a => if t < t + 1 then false else gS G a t) (gN G) = bm (fun _ => false) (gN G) := bm_congr (fun b _ => by simp)
      exact ((bm_0 _).symm.trans this.symm))
theorem pl_opens : Pl_opens RL := by
  intro δ σ σm x h
  obtain ⟨G, w, tr, sh, h⟩ := h
  have hn := h.n
  unfold xw_S_opens
  refine ⟨w, h.wE, xp_shutters h.rc hn ?_⟩
  rw [h.rc.draw]
  refine xp_bitCount (sm_bm _ hn) ?_
  have er : su (fun j => pc (bm (fun a => gS G a j) (gN G))) (gN G) + pc (bm (gC G) (gN G)) = su (fun i => pc (bm (gS G i) (gN G))) (gN G) + pc (bm (gC G) (gN G)) := by rw [shut_rc G hn]
  rw [er]
  exact xp_opens h (fun σ' c k e8 => mp_opens h.u h.rm (fun u hu hg => ⟨rfl, (h.upd (G' := opG G) h.1 hu c k (Nat.le_refl _) (fun t _ => e8 t) hg).rl⟩))
