/-! shuts -/
theorem lpE {S : Type} (W : Nat → S → Int32 → Prop) (I : Nat → S → Prop) (e : Nat) (s0 : S) (h0 : I 0 s0) (hx : ∀ n s, I e s → W (n + 1) s (nI e)) (hs : ∀ n i s, i < e → I i s → (∀ s', I (i + 1) s' → W n s' (nI i + 1)) → W (n + 1) s (nI i)) : W (e + 1) s0 0 := by
  have key : ∀ m i s, i + m = e → I i s → W (m + 1) s (nI i) := by
    intro m
    induction m with
    | zero => intro i s h hI; obtain rfl : i = e := by omega
              exact hx 0 s hI
    | succ m ih => intro i s h hI
                   exact hs (m + 1) i s (by omega) hI (fun s' hI' => by rw [nI_1]; exact ih (i + 1) s' (by omega) hI')
  have := key e 0 s0 (by omega) h0
  rw [nI_0] at this
  exact this
theorem RL.ms {δ : XSh} {σ : XSt} {σm σm' : MSt} {x : Nat} (h : RL δ σ σm x) (hs : Ms σm σm') : RL δ σ σm' x := by
  obtain ⟨G, w, tr, sh, h⟩ := h
  exact ⟨G, w, tr, sh, h.ms hs⟩
theorem Ms_ref {a b : MSt} (h : Ms a b) (k : Nat) : Ms (sI a 6 k (a.2.1 6 k + 1)) (sI b 6 k (b.2.1 6 k + 1)) := by
  refine ⟨h.1, fun c hc => ?_, h.2.2⟩
  by_cases q : c = 6
  · subst q
    rw [sI_s, sI_s, h.2.1 6 (by decide)]
  · rw [sI_n _ _ _ q, sI_n _ _ _ q]
    exact h.2.1 c hc
section PH
variable {G : Gd} {tr x w q : Nat} {sh : Nat → Nat} {δ : XSh} {σ : XSt} {σm : MSt} {K : Int32 → MSt → Prop} {KX : Int32 → XSh → XSt → Prop}
theorem RQ.t15 {j : Nat} {v : Int32} (h : RQ G w tr sh δ σ σm x) : RQ G w tr sh δ (tI σ 15 q j v) σm x := h
/-- the ground with all needless sights shut -/
def shG (G : Gd) : Gd := setS G (shF G true (fun _ _ => true))
theorem mp_shuts_n (hU : gU G) (hR : RM G σm) (h : ¬ bm (nvB G) (gN G) = 0) (hK : ∀ u, Ms σm u → K (-nI 6) (sI u 6 6 (u.2.1 6 6 + 1))) : mw_shuts K σm := by
  unfold mw_shuts
  refine mp_shutters hU hR false (fun u u1 u2 u3 u4 u5 u6 => ?_)
  rw [u5]
  exact ⟨fun z => absurd z h, fun _ => mp_no 6 (by decide) (by decide) (hK u (u3 rfl))⟩
theorem mp_shuts_y (hU : gU G) (hR : RM G σm) (h : bm (nvB G) (gN G) = 0) (hK : ∀ u, RM (shG G) u → Mg σm u → K (ctot G (gN G)) u) : mw_shuts K σm := by
  unfold mw_shuts
  refine mp_shutters hU hR false (fun u u1 u2 u3 u4 u5 u6 => ?_)
  rw [u5]
  refine ⟨fun _ => ?_, fun z => absurd h z⟩
  have r : RM G u := hR.ms (u3 rfl)
  refine mp_shutters hU r true (fun v v1 v2 v3 v4 v5 v6 => ?_)
  rw [v4]
  exact hK v v1 (u2.tr v2)
theorem xp_shuts67 (h : RQ G w tr sh δ σ σm x) {r : Int32} (hq : ∀ t, t < gN G → σ.1 15 q t = if hs G t = true then bm (tsB G t) (gN G) else 0) (hK : ∀ σ', RC (shG G) δ σ' w → Kp w δ σ δ σ' → (∀ t, σ'.2.2 8 w t = σ.2.2 8 w t) → KX r δ σ') : ∃ n, xw_S_shuts_67 KX x n q r 0 δ σ := by
  have hn := h.n
  refine lpU (fun n (u : XSt) i => xw_S_shuts_67 KX x n q r i δ u) (fun j u => Kp w δ σ δ u ∧ u.2 = σ.2 ∧ u.1 15 q = σ.1 15 q ∧ RC (setS G (shF G true (fun _ t => decide (t < j)))) δ u w) (gN G) σ ⟨Kp.rf, rfl, rfl, RC.cgS (G := G) (f := gS G) h.rc (fun a t _ _ => by simp [shF])⟩ ?_ ?_
  · rintro n u ⟨k, e2, e15, hu⟩
    show xw_S_shuts_67_b KX x (xw_S_shuts_67 KX x n) q r (nI (gN G)) δ u
    unfold xw_S_shuts_67_b
    have e0 : u.1 6 w 0 = nI (gN G) := hu.1
    refine ⟨w, by rw [e2]; exact h.wE, ?_⟩
    rw [e0]
    refine br_t (nI_le (Nat.le_refl _) (by omega)) (hK u (RC.cgS (G := G) hu (fun a t _ ht => ?_)) k (fun t => by rw [e2]))
    simp [shF, ht]
  · rintro n t u ht ⟨k, e2, e15, hu⟩ L
    have h8 : t < 8 := by omega
    show xw_S_shuts_67_b KX x (xw_S_shuts_67 KX x n) q r (nI t) δ u
    unfold xw_S_shuts_67_b
    have e0 : u.1 6 w 0 = nI (gN G) := hu.1
    refine ⟨w, by rw [e2]; exact h.wE, ?_⟩
    have e10 : u.1 10 w t = bm (fun a => shF G true (fun _ t' => decide (t' < t)) a t) (gN G) := (hu.2.2.2.2.2.2 t ht).2.1
    rw [e0, pcl h8, e10, e15, hq t ht]
    refine br_f (nI_ge ht (by omega)) ⟨pin h8, pin h8, pin h8, ?_⟩
    rintro σ3 rfl
    refine L _ ⟨k.tr (Kp.tI ig10), e2, ?_, ?_⟩
    · rw [tI_n _ _ _ (fun z => absurd z.1 (by decide))]; exact e15
    · refine hu.shu (j := t) (f := shF G true (fun _ b => decide (b < t + 1))) (fun b a _ _ q' => ?_) ?_
      · show _ = shF G true (fun _ t' => decide (t' < t)) a b
        unfold shF
        have : (b < t + 1) = (b < t) := by rw [eq_iff_iff]; omega
        simp [this]
      · show _ = bm (fun a => shF G true (fun _ b => decide (b < t + 1)) a t) (gN G)
        cases c : hs G t with
        | false =>
          rw [if_neg (by decide), or_0]
          refine bm_congr (fun a _ => ?_)
          show shF G true (fun _ t' => decide (t' < t)) a t = shF G true (fun _ b => decide (b < t + 1)) a t
          simp [shF, c]
        | true =>
          rw [if_pos rfl]
          refine b_ext (fun i hi => ?_)
          rw [b_or, bm_bt _ (by omega) hi, bm_bt _ (by omega) hi, bm_bt _ (by omega) hi]
          show (decide (i < gN G) && shF G true (fun _ t' => decide (t' < t)) i t || decide (i < gN G) && tsB G t i) = (decide (i < gN G) && shF G true (fun _ b => decide (b < t + 1)) i t)
          by_cases qi : i < gN G
          · simp [shF, c, qi]
          · simp [qi]
end PH
theorem pl_shuts : Pl_shuts RL := by
  intro δ0 σ0 σm x h
  obtain ⟨G, w, tr, sh, h⟩ := h
  have hn := h.n
  unfold xw_S_shuts
  rintro q δ σ hA
  have h1 := h.kp hA.1.kp
  have hz := hA.2.2.2
  refine ⟨gN G + 1, by omega, ?_⟩
  refine lpE (fun n (u : XSt) i => xw_S_shuts_7 (fun r δ1 σ1 => mw_shuts (fun r2 u => r = r2 ∧ RL δ1 σ1 u x) σm) x n q i δ u) (fun j u => RQ G w tr sh δ u σm x ∧ (∀ t, t < gN G → u.1 15 q t = if t < j ∧ hs G t = true then bm (tsB G t) (gN G) else 0) ∧ ∀ t, t < j → nvB G t = false) (gN G) σ ⟨h1, fun t _ => by rw [hz]; simp, fun t ht => by omega⟩ ?_ ?_
  · rintro n u ⟨hu, u2, u3⟩
    show xw_S_shuts_7_b _ x (xw_S_shuts_7 _ x n) q (nI (gN G)) δ u
    unfold xw_S_shuts_7_b
    refine ⟨w, hu.wE, ?_⟩
    rw [hu.rc.1]
    refine br_t (nI_le (Nat.le_refl _) (by omega)) ?_
    unfold xw_S_cheapest
    refine xp_in (x := 0) (y := 0) (z := 2) (fun c => absurd c (by decide)) (fun _ _ => xp_need (b := true) (fun z => by cases z) (fun _ => xp_cheap hu ?_))
    rw [if_pos rfl]
    refine xp_shuts67 hu (fun t ht => by rw [u2 t ht]; simp [ht]) (fun σ' c k e8 => mp_shuts_y hu.u hu.rm ?_ (fun v v1 v2 => ⟨rfl, (hu.upd (G' := shG G) hu.1 v1 c k (Nat.le_refl _) (fun t _ => e8 t) v2).rl⟩))
    have e : bm (nvB G) (gN G) = bm (fun _ => false) (gN G) := bm_congr (fun t ht => u3 t ht)
    rw [e, bm_0]
  · rintro n j u hj ⟨hu, u2, u3⟩ L
    have h8 : j < 8 := by omega
    show xw_S_shuts_7_b _ x (xw_S_shuts_7 _ x n) q (nI j) δ u
    unfold xw_S_shuts_7_b
    refine ⟨w, hu.wE, ?_⟩
    rw [hu.rc.1, pcl h8]
    refine br_f (nI_ge hj (by omega)) (xp_house hu.rc hu.u hj (bI_if (fun c => L u ⟨hu, fun t ht => ?_, fun t ht => ?_⟩) (fun c => xp_canBe hu.u hu.rc hj (xp_need (fun d q' δ1 σ1 hN => xp_refuse 6 (by decide) (by decide) hu hN (fun σ2 hr => ?_)) (fun d => ⟨w, hu.wE, xp_toShut hu.u hu.rc hj ⟨pin h8, ?_⟩⟩)))))
    · rw [u2 t ht]
      by_cases e : t = j
      · subst e; simp [c]
      · have : (t < j + 1) = (t < j) := by rw [eq_iff_iff]; omega
        simp [this]
    · by_cases e : t = j
      · subst e; simp [nvB, c]
      · exact u3 t (by omega)
    · refine mp_shuts_n hu.u hu.rm (fun z => ?_) (fun v hv => ⟨rfl, hr.ms (Ms_ref hv 6)⟩)
      have := (bm_z hn).mp z
      have := fst_m1 hn this j hj
      unfold nvB at this
      rw [c] at this
      simp only [Bool.true_and] at this
      rw [this] at d
      cases d
    · rintro σ2 rfl
      refine L _ ⟨hu.t15, fun t ht => ?_, fun t ht => ?_⟩
      · rw [tI_s, upd_e]
        by_cases e : t = j
        · subst e; simp [c]
        · rw [if_neg e, u2 t ht]
          have : (t < j + 1) = (t < j) := by rw [eq_iff_iff]; omega
          simp [this]
      · by_cases e : t = j
        · subst e
          unfold nvB
          rw [c, Bool.true_and]
          cases hb : (!decide (gK G t = 4) && decide (sr G t = 0)) with
          | false => rfl
          | true => rw [hb] at d; cases d
        · exact u3 t (by omega)
