/-! the shelves -/
/-- all is kept but what one shelf holds, and its row's elements -/
def Ks (a : Nat) (R : Nat → Prop) (δ : XSh) (σ : XSt) (δ1 : XSh) (σ1 : XSt) : Prop := Ext δ δ1 ∧ ∀ k i, (k, i) ∈ δ.1 → ¬ (k = 5 ∧ i = a) → ¬ (k = 11 ∧ R i) → σ1.1 k i = σ.1 k i ∧ σ1.2.1 k i = σ.2.1 k i ∧ σ1.2.2 k i = σ.2.2 k i
/-- all of the model but one shelf -/
def Mh (s : Nat) (σm σm' : MSt) : Prop := (∀ k, k ≤ 5 ∨ k = 36 ∨ k = 37 → σm'.1 k = σm.1 k) ∧ (∀ a, (6 ≤ a ∧ a ≤ 13) ∨ a = 20 ∨ a = 28 ∨ a = 35 → σm'.2.1 a = σm.2.1 a) ∧ (∀ a t, 14 ≤ a ∧ a ≤ 17 → t ≠ s → σm'.2.1 a t = σm.2.1 a t) ∧ ∀ j, (j < 160 * s ∨ 160 * s + 160 ≤ j) → σm'.2.2 18 j = σm.2.2 18 j
theorem RC.ks {G : Gd} {a g : Nat} {R : Nat → Prop} {δ δ1 : XSh} {σ σ1 : XSt} (h : RC G δ σ g) (hi : gI δ g) (hk : Ks a R δ σ δ1 σ1) : RC G δ1 σ1 g := by
  obtain ⟨h0, h1, h2, h3, h4, h5, h6⟩ := h
  have nk : ∀ k i, (k, i) ∈ δ.1 → k ≠ 5 → k ≠ 11 → σ1.1 k i = σ.1 k i ∧ σ1.2.1 k i = σ.2.1 k i ∧ σ1.2.2 k i = σ.2.2 k i := fun k i hm n5 n11 => hk.2 k i hm (fun z => n5 z.1) (fun z => n11 z.1)
  unfold RC
  rw [(nk 6 g hi.1 (by decide) (by decide)).1, (nk 8 g hi.2.1 (by decide) (by decide)).2.2, (nk 9 g hi.2.2.1 (by decide) (by decide)).1, (nk 10 g hi.2.2.2 (by decide) (by decide)).1]
  refine ⟨h0, h1, h2, h3, h4, h5, fun i hi => ?_⟩
  obtain ⟨a1, a2, o, a3, a4, a5, a6⟩ := h6 i hi
  refine ⟨a1, a2, o, a3, hk.1.m a4, hk.1.eq a4 a5, ?_⟩
  rw [(nk 7 o a4 (by decide) (by decide)).1]
  exact a6
theorem RQ.shs {G : Gd} {tr x w s0 : Nat} {sh : Nat → Nat} {R : Nat → Prop} {δ δ' : XSh} {σ σ' : XSt} {σm σm' : MSt} (h : RQ G w tr sh δ σ σm x) (hs0 : s0 < 8) (hR : ∀ i, R i → σ.2.2 5 (sh s0) 0 = some i ∧ 12 ≤ δ.2.2.1 i) (hk : Ks (sh s0) R δ σ δ' σ') (hm : Mh s0 σm σm') (hn : HR G δ' σ' σm' w (sh s0) s0) (hap : ∀ s, s < 8 → s ≠ s0 → ∀ o, σ.2.2 5 (sh s) 0 = some o → σ'.2.2 5 (sh s0) 0 = some o → 12 ≤ δ'.2.2.1 o → False) : RQ G w tr sh δ' σ' σm' x := by
  obtain ⟨h1, h2, h3, ⟨⟨m0, m1, m2, m3, m4⟩, b1, b2, b3, b4, b5, b6, b7, b8, b9, b10, b11⟩, ⟨c1, c2, c3⟩⟩ := h
  have nk : ∀ k i, (k, i) ∈ δ.1 → k ≠ 5 → k ≠ 11 → σ'.1 k i = σ.1 k i ∧ σ'.2.1 k i = σ.2.1 k i ∧ σ'.2.2 k i = σ.2.2 k i := fun k i hm n5 n11 => hk.2 k i hm (fun z => n5 z.1) (fun z => n11 z.1)
  have e0 := nk 0 x m0 (by decide) (by decide)
  have e1 := nk 1 x m1 (by decide) (by decide)
  have e2 := nk 2 x m2 (by decide) (by decide)
  have e3 := nk 3 x m3 (by decide) (by decide)
  have e4 := nk 4 x m4 (by decide) (by decide)
  have e5 : ∀ s, s < 8 → s ≠ s0 → σ'.2.2 5 (sh s) = σ.2.2 5 (sh s) := fun s hs ne => (hk.2 5 (sh s) (c1 s hs).2.1 (fun z => ne (c2 s s0 hs hs0 z.2)) (fun z => absurd z.1 (by decide))).2.2
  refine ⟨h1, ?_, h3.ks b1 hk, ⟨⟨hk.1.m m0, hk.1.m m1, hk.1.m m2, hk.1.m m3, hk.1.m m4⟩, b1.m hk.1, b2.m hk.1, b3, by rw [e0.2.2]; exact b4, by rw [e0.2.2]; exact b5, ?_, ?_, ?_, ?_, ?_, ?_⟩, ⟨fun s hs => ?_, c2, fun s s' o hs hs' q1 q2 q3 => ?_⟩⟩
  · unfold RM
    rw [hm.1 0 (by decide), hm.1 1 (by decide), hm.1 2 (by decide), hm.1 3 (by decide), hm.1 4 (by decide), hm.2.1 7 (by decide), hm.2.1 8 (by decide), hm.2.1 9 (by decide), hm.2.1 10 (by decide), hm.2.1 11 (by decide), hm.2.1 12 (by decide), hm.2.1 13 (by decide)]
    exact h2
  · rw [e2.1, hm.2.1 6 (by decide)]; exact b6
  · rw [e0.1, hm.1 5 (by decide)]; exact b7
  · rw [e3.1, hm.1 36 (by decide)]; exact b8
  · rw [e4.1, hm.2.1 35 (by decide)]; exact b9
  · rw [hm.2.1 20 (by decide)]; exact b10
  · unfold IM
    rw [e0.2.2, hm.1 37 (by decide), hm.2.1 28 (by decide)]
    rcases b11 with q | ⟨im, GI, a1, a2, a3, a4, a5, a6, a7⟩
    · exact Or.inl q
    · exact Or.inr ⟨im, GI, a1, a2, a3, a4.m hk.1, a5, a6.ks a4 hk, a7⟩
  · rw [e1.2.2]
    refine ⟨(c1 s hs).1, hk.1.m (c1 s hs).2.1, ?_⟩
    by_cases ne : s = s0
    · subst ne; exact hn
    · have e8 := (nk 8 w b1.2.1 (by decide) (by decide)).2.2
      unfold HR
      rw [e5 s hs ne, e8, hm.2.2.1 14 s (by decide) ne, hm.2.2.1 17 s (by decide) ne]
      rcases (c1 s hs).2.2 with q | q | ⟨o, k, n, a1, a2⟩
      · exact Or.inl q
      · exact Or.inr (Or.inl q)
      · refine Or.inr (Or.inr ⟨o, k, n, a1, ?_⟩)
        obtain ⟨d1, d2, d3, d4, d5, d6, d7, d8, d9, d10⟩ := a2
        have e11 := hk.2 11 o d2 (fun z => absurd z.1 (by decide)) (fun z => by
          have := hR o z.2
          exact ne (c3 s s0 o hs hs0 a1 this.1 (by rw [d3]; omega)))
        refine ⟨hk.1.m d1, hk.1.m d2, hk.1.eq d1 d3, d4, by rw [(hk.1.2 o d1).2]; exact d5, d6, by rw [hm.2.2.1 14 s (by decide) ne]; exact d7, by rw [hm.2.2.1 15 s (by decide) ne]; exact d8, by rw [hm.2.2.1 16 s (by decide) ne]; exact d9, fun i hi => ?_⟩
        have ei : σm'.2.2 18 (160 * s + i) = σm.2.2 18 (160 * s + i) := hm.2.2.2 _ (by omega)
        unfold rv rok
        rw [e11.1, e11.2.1, ei]
        exact d10 i hi
  · by_cases ne : s = s0
    · by_cases ne' : s' = s0
      · rw [ne, ne']
      · exfalso
        subst ne
        rw [e5 s' hs' ne'] at q2
        exact hap s' hs' ne' o q2 q1 q3
    · by_cases ne' : s' = s0
      · exfalso
        subst ne'
        rw [e5 s hs ne] at q1
        exact hap s hs ne o q1 q2 q3
      · rw [e5 s hs ne] at q1
        rw [e5 s' hs' ne'] at q2
        have hr := (c1 s hs).2.2.role h3 q1
        rw [(hk.1.2 o hr).1] at q3
        exact c3 s s' o hs hs' q1 q2 q3
section PN
variable {G : Gd} {tr x w : Nat} {sh : Nat → Nat} {δ : XSh} {σ : XSt} {σm : MSt} {x1 : Int32}
theorem xp_shelf {K : Nat → XSh → XSt → Prop} {X : Nat → XSh → XSt → Prop} (h : RQ G w tr sh δ σ σm x) (h0 : (¬ ∃ s, s < 8 ∧ x1 = nI s) → ∀ q δ1 σ1, NewRe (-nI 1) δ σ q δ1 σ1 → X q δ1 σ1) (h1 : ∀ s, s < 8 → x1 = nI s → K (sh s) δ σ) : xw_S_shelf K X x x1 δ σ := by
  unfold xw_S_shelf
  refine ⟨fun c => ?_, fun c _ => h0 (fun ⟨s, hs, e⟩ => c (by rw [e]; exact pin hs))⟩
  obtain ⟨s, hs, e⟩ := vp_in_of c (by decide)
  subst e
  rw [pcl hs]
  exact ⟨sh s, (h.she hs).1, h1 s hs rfl⟩
theorem ninR : ∀ k, k ≤ 6 → ¬ 5 + k ∈ [12, 13, 14, 15] := by decide
theorem xp_row {K : Nat → XSh → XSt → Prop} {X : Nat → XSh → XSt → Prop} {s : Nat} (h : RQ G w tr sh δ σ σm x) (hs : s < 8) (h0 : σm.2.1 14 s = 0 → ∀ q δ1 σ1, NewRe (-nI 3) δ σ q δ1 σ1 → X q δ1 σ1) (h2 : σm.2.1 14 s = 2 → ∀ q δ1 σ1, NewRe (-nI 2) δ σ q δ1 σ1 → X q δ1 σ1) (h1 : ∀ o k n, σ.2.2 5 (sh s) 0 = some o → HRr δ σ σm s o k n → K o δ σ) : xw_Sh_row K X (sh s) δ σ := by
  unfold xw_Sh_row
  refine h.held hs (fun a b => ?_) (fun o t a1 a2 a3 a4 a5 a6 a7 a8 a9 => ?_) (fun o k n a1 a2 => ?_)
  · exact ⟨fun _ => xp_need (b := false) (fun _ => h0 b) (fun z => by cases z), fun o z => by rw [a] at z; cases z⟩
  · refine ⟨fun z => by (rw [a1] at z; cases z), fun o1 z => ?_⟩
    rw [a1] at z
    cases z
    exact ⟨fun q => absurd q (by rw [a5]; exact ninR _ a6), fun _ _ => h2 a8⟩
  · refine ⟨fun z => by (rw [a1] at z; cases z), fun o1 z => ?_⟩
    rw [a1] at z
    cases z
    exact ⟨fun _ => xp_need (b := true) (fun z => by cases z) (fun _ => h1 o k n a1 a2), fun q => absurd (by rw [a2.2.2.1]; exact in4 _ a2.2.2.2.1) q⟩
end PN
theorem sJ_s (σm : MSt) (a i : Nat) (v : Int64) : (sJ σm a i v).2.2 a = vp_updL (σm.2.2 a) i v := va_up_self _ _ _
theorem sJ_n (σm : MSt) {a b : Nat} (i : Nat) (v : Int64) (h : b ≠ a) : (sJ σm a i v).2.2 b = σm.2.2 b := va_up_ne _ _ h
theorem updL_e {f : Nat → Int64} {k j : Nat} {v : Int64} : vp_updL f k v j = if j = k then v else f j := rfl
theorem Mh.rf {s : Nat} {σm : MSt} : Mh s σm σm := ⟨fun _ _ => rfl, fun _ _ => rfl, fun _ _ _ _ => rfl, fun _ _ => rfl⟩
theorem Mh.tr {s : Nat} {a b c : MSt} (h : Mh s a b) (g : Mh s b c) : Mh s a c := ⟨fun k hk => (g.1 k hk).trans (h.1 k hk), fun k hk => (g.2.1 k hk).trans (h.2.1 k hk), fun k t hk ht => (g.2.2.1 k t hk ht).trans (h.2.2.1 k t hk ht), fun j hj => (g.2.2.2 j hj).trans (h.2.2.2 j hj)⟩
theorem Mh.sI {s a : Nat} {v : Int32} {σm : MSt} (ha : 14 ≤ a ∧ a ≤ 17) : Mh s σm (sI σm a s v) := ⟨fun _ _ => rfl, fun b hb => sI_n _ _ _ (by omega), fun b t _ ht => by
  by_cases q : b = a
  · subst q; rw [sI_s, pk_un ht]
  · rw [sI_n _ _ _ q], fun _ _ => rfl⟩
theorem Mh.sJ {s j : Nat} {v : Int64} {σm : MSt} (hj : 160 * s ≤ j) (hj2 : j < 160 * s + 160) : Mh s σm (sJ σm 18 j v) := ⟨fun _ _ => rfl, fun _ _ => rfl, fun _ _ _ _ => rfl, fun i hi => by
  rw [sJ_s, updL_e, if_neg (by omega)]⟩
theorem Mh_19 {s j : Nat} {v : Int64} {σm : MSt} : Mh s σm (sJ σm 19 j v) := ⟨fun _ _ => rfl, fun _ _ => rfl, fun _ _ _ _ => rfl, fun i hi => by
  rw [sJ_n _ _ _ (by decide)]⟩
/-- a shelf's own write -/
theorem Ks.tP {a : Nat} {v : Option Nat} {R : Nat → Prop} {δ : XSh} {σ : XSt} : Ks a R δ σ δ (tP σ 5 a 0 v) := ⟨Ext.rf, fun k i _ h5 _ => ⟨rfl, rfl, tP_n _ _ _ h5⟩⟩
theorem Agr.ks {a : Nat} {R : Nat → Prop} {δ δ1 : XSh} {σ σ1 : XSt} (h : Agr δ σ δ1 σ1) : Ks a R δ σ δ1 σ1 := ⟨h.1, fun k i hk _ _ => h.2 (k, i) hk⟩
theorem Ks.tr {a' : Nat} {R : Nat → Prop} {a b c : XSh} {x y z : XSt} (h : Ks a' R a x b y) (g : Ks a' R b y c z) : Ks a' R a x c z := ⟨h.1.tr g.1, fun k i hk h5 h11 => by
  obtain ⟨a1, a2, a3⟩ := h.2 k i hk h5 h11
  obtain ⟨b1, b2, b3⟩ := g.2 k i (h.1.m hk) h5 h11
  exact ⟨b1.trans a1, b2.trans a2, b3.trans a3⟩⟩
theorem pl_show : Pl_show RL := by
  intro δ σ σm x h x1 x2
  obtain ⟨G, w, tr, sh, h⟩ := h
  have hn := h.n
  unfold xw_S_show xw_S_show_38
  have fin : ∀ s, s < 8 → ∀ (hv t0 r : Int32) (σ' : XSt), (x2 = -1 → hv = 0 ∧ r = 0) → (¬ x2 = -1 → hv = 2 ∧ r = 1) → (∀ u : MSt, u = sI (sI σm 14 s hv) 17 s x2 → RL δ σ' u x) → mw_show_27 (fun r2 u => r = r2 ∧ RL δ σ' u x) (nI s) x2 σm := by
    intro s hs hv t0 r σ' k0 k1 hr
    unfold mw_show_27 mw_show_42
    rw [pcl hs]
    refine ⟨fun c => ⟨pin hs, ?_⟩, fun c => ⟨pin hs, ?_⟩⟩
    · rintro σ2 rfl
      refine ⟨pin hs, ?_⟩
      rintro σ4 rfl
      have := k1 c
      exact ⟨fun _ => ⟨this.2, hr _ (by rw [this.1])⟩, fun z => absurd z c⟩
    · rintro σ2 rfl
      refine ⟨pin hs, ?_⟩
      rintro σ4 rfl
      have := k0 c
      exact ⟨fun z => absurd c z, fun _ => ⟨this.2, hr _ (by rw [this.1])⟩⟩
  refine xp_shelf h (fun c q δ1 σ1 hN => xp_refuse 1 (by decide) (by decide) h hN (fun σ2 hr => ?_)) (fun s hs e => ?_)
  · exact mp_shelf_f c ⟨fun _ => mp_no 1 (by decide) (by decide) ⟨rfl, hr⟩, fun z => absurd rfl z⟩
  · subst e
    refine ⟨fun c => ?_, fun c => ?_⟩
    · refine xp_mustThing h (fun d q δ1 σ1 hN => xp_refuse 1 (by decide) (by decide) h hN (fun σ2 hr => ?_)) (fun t ht e => ⟨w, h.wE, ?_⟩)
      · unfold mw_show mw_show_21
        exact mp_shelf_t hs ⟨fun z => absurd z (by decide), fun _ => ⟨fun z => absurd z c, fun _ => mp_thing_f h.rm hn d ⟨fun z => absurd rfl z, fun _ => mp_no 1 (by decide) (by decide) ⟨rfl, hr⟩⟩⟩⟩
      · subst e
        have t8 : t < 8 := by omega
        obtain ⟨-, -, o, e8, e7, ec, -⟩ := h.rc.2.2.2.2.2.2 t ht
        have h6 := (h.u.2.2.1 t ht).1
        rw [pcl t8]
        refine ⟨pin t8, o, e8, ?_⟩
        rintro σ14 rfl
        unfold mw_show
        refine mp_shelf_t hs ⟨fun z => absurd z (by decide), fun _ => ⟨fun z => absurd z c, fun _ => mp_thing_t h.rm hn ht ⟨fun _ => fin s hs 2 0 1 _ (fun z => absurd z c) (fun _ => ⟨rfl, rfl⟩) (fun u eu => ?_), fun z => absurd z (by decide)⟩⟩⟩
        have hm : Mh s σm u := by rw [eu]; exact (Mh.sI (by decide)).tr (Mh.sI (by decide))
        have e5 : (tP σ 5 (sh s) 0 (some o)).2.2 5 (sh s) 0 = some o := by rw [tP_s, vup_e]; rfl
        refine (h.shs (R := fun _ => False) hs (fun _ z => z.elim) Ks.tP hm (Or.inr (Or.inl ⟨o, t, e5, ht, ?_, ?_, ?_⟩)) (fun s' hs' ne o' q1 q2 q3 => ?_)).rl
        · exact e8
        · rw [eu, sI_n _ _ _ (by decide), sI_s, pk_us]
        · rw [eu, sI_s, pk_us]
        · rw [e5] at q2
          cases q2
          rw [ec] at q3
          omega
    · rintro σ21 rfl
      unfold mw_show
      refine mp_shelf_t hs ⟨fun z => absurd z (by decide), fun _ => ⟨fun _ => fin s hs 0 0 0 _ (fun _ => ⟨rfl, rfl⟩) (fun z => absurd c z) (fun u eu => ?_), fun z => absurd c z⟩⟩
      have hm : Mh s σm u := by rw [eu]; exact (Mh.sI (by decide)).tr (Mh.sI (by decide))
      have e5 : (tP σ 5 (sh s) 0 none).2.2 5 (sh s) 0 = none := by rw [tP_s, vup_e]; rfl
      refine (h.shs (R := fun _ => False) hs (fun _ z => z.elim) Ks.tP hm (Or.inl ⟨e5, ?_⟩) (fun s' hs' ne o' q1 q2 q3 => ?_)).rl
      · rw [eu, sI_n _ _ _ (by decide), sI_s, pk_us]
      · rw [e5] at q2
        cases q2
theorem ix160 {s i n : Nat} (hs : s < 8) (hi : i < n) (hn : n ≤ 160) : (160 : Int32) * nI s + nI i = nI (160 * s + i) ∧ vp_in (nI (160 * s + i)) 1280 ∧ (nI (160 * s + i)).toNatClampNeg = 160 * s + i := by
  refine ⟨?_, vp_in_nI (by omega) (by decide), nI_clamp (by omega)⟩
  show nI 160 * nI s + nI i = _
  rw [pk_mul, nI_add]
theorem pl_element : Pl_element RL := by
  intro δ σ σm x h x1 x2
  obtain ⟨G, w, tr, sh, h⟩ := h
  unfold xw_S_element
  have rlA : ∀ {δ1 σ1}, Agr δ σ δ1 σ1 → RL δ1 σ1 σm x := fun hA => (h.kp hA.kp).rl
  refine xp_shelf h (fun c q δ1 σ1 hN => ?_) (fun s hs e => ?_)
  · unfold mw_element
    exact mp_shelf_f c ⟨fun _ => ⟨rfl, rlA hN.1⟩, fun z => absurd rfl z⟩
  · subst e
    have m0 : ∀ {δ1 σ1}, Agr δ σ δ1 σ1 → ¬ σm.2.1 14 s = 1 → mw_element σm (fun r2 => (0 : Int64) = r2 ∧ RL δ1 σ1 σm x) (nI s) x2 := fun hA c => by
      unfold mw_element
      refine mp_shelf_t hs ⟨fun z => absurd z (by decide), fun _ => ⟨pin hs, ?_⟩⟩
      rw [pcl hs]
      exact ⟨fun _ => ⟨rfl, rlA hA⟩, fun z => absurd z c⟩
    refine xp_row h hs (fun a q δ1 σ1 hN => m0 hN.1 (by rw [a]; decide)) (fun a q δ1 σ1 hN => m0 hN.1 (by rw [a]; decide)) (fun o k n a1 a2 => ?_)
    obtain ⟨d1, d2, d3, d4, d5, d6, d7, d8, d9, d10⟩ := a2
    have good : ∀ i, i < n → x2 = nI i → ∀ r, r = rv σ k o i → mw_element σm (fun r2 => r = r2 ∧ RL δ σ σm x) (nI s) x2 := by
      rintro i hi rfl r hr
      unfold mw_element
      obtain ⟨i1, i2, i3⟩ := ix160 hs hi d6
      refine mp_shelf_t hs ⟨fun z => absurd z (by decide), fun _ => ⟨pin hs, ?_⟩⟩
      rw [pcl hs, d7, d9]
      refine ⟨fun z => absurd rfl z, fun _ => br_f (nI_pos (by omega)) ⟨pin hs, br_f (nI_ge hi (by omega)) ?_⟩⟩
      rw [i1, i3]
      exact ⟨i2, hr.trans (d10 i hi).1, h.rl⟩
    have bad : ¬ vp_in x2 n → mw_element σm (fun r2 => (0 : Int64) = r2 ∧ RL δ σ σm x) (nI s) x2 := by
      intro c
      unfold mw_element
      refine mp_shelf_t hs ⟨fun z => absurd z (by decide), fun _ => ⟨pin hs, ?_⟩⟩
      rw [pcl hs, d7, d9]
      refine ⟨fun z => absurd rfl z, fun _ => ⟨fun _ => ⟨rfl, h.rl⟩, fun a => ⟨pin hs, fun _ => ⟨rfl, h.rl⟩, fun b => ?_⟩⟩⟩
      exfalso
      rcases pk_ix x2 (n := n) (by omega) with q | q | ⟨i, hi, e⟩
      · exact a q
      · exact b q
      · exact c (by rw [e]; exact vp_in_nI hi (by omega))
    have key : ∀ (g : Nat → Int64), (∀ i, g i = rv σ k o i) → (vp_in x2 (δ.2.2.2 o) → mw_element σm (fun r2 => g x2.toNatClampNeg = r2 ∧ RL δ σ σm x) (nI s) x2) ∧ (¬ vp_in x2 (δ.2.2.2 o) → δ.2.2.2 o < 2147483648 ∧ ∀ _ : Nat, mw_element σm (fun r2 => (0 : Int64) = r2 ∧ RL δ σ σm x) (nI s) x2) := by
      intro g hg
      rw [d5]
      refine ⟨fun c => ?_, fun c => ⟨by omega, fun _ => bad c⟩⟩
      obtain ⟨i, hi, e⟩ := vp_in_of c (by omega)
      refine good i hi e _ ?_
      rw [e, nI_clamp (by omega)]
      exact hg i
    unfold xv_R_getX
    rw [d3]
    rcases c4 d4 with e | e | e | e <;> subst e
    · exact ⟨fun _ => key (fun i => (σ.1 11 o i).toInt64) (fun i => rfl), fun z => absurd z (by decide), fun z => absurd z (by decide), fun z => absurd z (by decide)⟩
    · exact ⟨fun z => absurd z (by decide), fun _ => key (fun i => (σ.1 11 o i).toInt64) (fun i => rfl), fun z => absurd z (by decide), fun z => absurd z (by decide)⟩
    · exact ⟨fun z => absurd z (by decide), fun z => absurd z (by decide), fun _ => key (fun i => (σ.1 11 o i).toInt64) (fun i => rfl), fun z => absurd z (by decide)⟩
    · exact ⟨fun z => absurd z (by decide), fun z => absurd z (by decide), fun z => absurd z (by decide), fun _ => key (fun i => σ.2.1 11 o i) (fun i => rfl)⟩
