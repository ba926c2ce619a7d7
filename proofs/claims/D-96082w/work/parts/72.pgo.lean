/-! row, set -/
theorem mp_rowz {σm : MSt} {K : Int32 → MSt → Prop} {s : Nat} (hs : s < 8) (hK : ∀ u, (u.1 = σm.1) → (u.2.1 = σm.2.1) → (∀ j, u.2.2 18 j = if 160 * s ≤ j ∧ j < 160 * s + 160 then 0 else σm.2.2 18 j) → K 1 u) : ∃ n, mw_row_79 K n (nI s) 0 σm := by
  refine lpU (fun n (u : MSt) i => mw_row_79 K n (nI s) i u) (fun i u => u.1 = σm.1 ∧ u.2.1 = σm.2.1 ∧ ∀ j, u.2.2 18 j = if 160 * s ≤ j ∧ j < 160 * s + i then 0 else σm.2.2 18 j) 160 σm ⟨rfl, rfl, fun j => by rw [if_neg (by omega)]⟩ ?_ ?_
  · rintro n u ⟨u1, u2, u3⟩
    show mw_row_79_b K (mw_row_79 K n) (nI s) (nI 160) u
    unfold mw_row_79_b
    exact br_t (nI_le (Nat.le_refl 160) (by decide)) (hK u u1 u2 u3)
  · rintro n i u hi ⟨u1, u2, u3⟩ L
    show mw_row_79_b K (mw_row_79 K n) (nI s) (nI i) u
    unfold mw_row_79_b
    obtain ⟨i1, i2, i3⟩ := ix160 hs hi (Nat.le_refl 160)
    rw [i1, i3]
    refine br_f (nI_ge (b := 160) hi (by decide)) ⟨i2, ?_⟩
    rintro σ3 rfl
    refine L _ ⟨u1, u2, fun j => ?_⟩
    rw [sJ_s, updL_e, u3 j]
    by_cases q : j = 160 * s + i
    · rw [if_pos q, if_pos (by omega)]
    · rw [if_neg q]
      by_cases q2 : 160 * s ≤ j ∧ j < 160 * s + i
      · rw [if_pos q2, if_pos (by omega)]
      · rw [if_neg q2, if_neg (by omega)]
theorem pl_row : Pl_row RL := by
  intro δ σ σm x h x1 x2 x3
  obtain ⟨G, w, tr, sh, h⟩ := h
  unfold xw_S_row xw_S_row_16 xw_S_row_47 xw_S_row_64
  refine xp_shelf h (fun c q δ1 σ1 hN => xp_refuse 1 (by decide) (by decide) h hN (fun σ2 hr => ?_)) (fun s hs e => ?_)
  · unfold mw_row
    exact mp_shelf_f c ⟨fun z => absurd rfl z, fun _ => mp_no 1 (by decide) (by decide) ⟨rfl, hr⟩⟩
  · subst e
    refine ⟨fun c => xp_need (b := false) (fun _ q δ1 σ1 hN => xp_refuse 4 (by decide) (by decide) h hN (fun σ2 hr => ?_)) (fun z => by cases z), fun c => xp_need (b := true) (fun z => by cases z) (fun _ => ?_)⟩
    · unfold mw_row
      exact mp_shelf_t hs ⟨fun _ => ⟨fun z => absurd z (Int32.not_le.mpr c), fun _ => mp_no 4 (by decide) (by decide) ⟨rfl, hr⟩⟩, fun z => absurd z (by decide)⟩
    · have c' : (0 : Int32) ≤ x3 := Int32.not_lt.mp c
      refine xp_in (y := 0) (z := 3) (fun d => xp_need (b := false) (fun _ q δ1 σ1 hN => xp_refuse 6 (by decide) (by decide) h hN (fun σ2 hr => ?_)) (fun z => by cases z)) (fun d d' => xp_need (b := true) (fun z => by cases z) (fun _ => ⟨fun f => xp_need (b := false) (fun _ q δ1 σ1 hN => xp_refuse 7 (by decide) (by decide) h hN (fun σ2 hr => ?_)) (fun z => by cases z), fun f => xp_need (b := true) (fun z => by cases z) (fun _ => ?_)⟩))
      · unfold mw_row mw_row_34
        refine mp_shelf_t hs ⟨fun _ => br_t c' ⟨fun _ => mp_no 6 (by decide) (by decide) ⟨rfl, hr⟩, fun a => ⟨fun b => ?_, fun _ => mp_no 6 (by decide) (by decide) ⟨rfl, hr⟩⟩⟩, fun z => absurd z (by decide)⟩
        exfalso
        rcases d with d | d
        · exact a d
        · exact absurd b (Int32.not_le.mpr d)
      · unfold mw_row
        exact mp_shelf_t hs ⟨fun _ => br_t c' (br_f d (br_t (Int32.not_lt.mp d') ⟨fun z => absurd f (Int32.not_lt.mpr z), fun _ => mp_no 7 (by decide) (by decide) ⟨rfl, hr⟩⟩)), fun z => absurd z (by decide)⟩
      · obtain ⟨k, hk, ek⟩ := nI_of2 (n := 3) (M := 3) (by decide) d (Int32.not_lt.mp d')
        obtain ⟨n, hn, en⟩ := nI_of2 (n := 160) (M := 160) (by decide) c (Int32.not_lt.mp f)
        subst ek
        subst en
        have go : ∀ q δ1 σ1, NewB (12 + k) n δ σ q δ1 σ1 → mw_row (fun r2 u => (1 : Int32) = r2 ∧ RL δ1 (tP σ1 5 (sh s) 0 (some q)) u x) (nI s) (nI k) (nI n) σm := by
          intro q δ1 σ1 hN
          obtain ⟨hA, hF, r1, r2, r3, r4, r5, r6⟩ := hN
          unfold mw_row
          refine mp_shelf_t hs ⟨fun _ => br_t c' (br_f d (br_t (Int32.not_lt.mp d') ⟨fun _ => ⟨pin hs, ?_⟩, fun z => absurd (Int32.not_lt.mp f) z⟩)), fun z => absurd z (by decide)⟩
          rw [pcl hs]
          intro s8 e8
          refine ⟨pin hs, ?_⟩
          intro s10 e10
          refine ⟨pin hs, ?_⟩
          intro s12 e12
          have hm12 : Mh s σm s12 := by rw [e12, e10, e8]; exact ((Mh.sI (by decide)).tr (Mh.sI (by decide))).tr (Mh.sI (by decide))
          have v14 : s12.2.1 14 s = 1 := by rw [e12, sI_n _ _ _ (by decide), e10, sI_n _ _ _ (by decide), e8, sI_s, pk_us]
          have v15 : s12.2.1 15 s = nI k := by rw [e12, sI_n _ _ _ (by decide), e10, sI_s, pk_us]
          have v16 : s12.2.1 16 s = nI n := by rw [e12, sI_s, pk_us]
          clear e8 e10 e12
          refine mp_rowz hs (fun u u1 u2 u3 => ⟨rfl, ?_⟩)
          have hm : Mh s σm u := hm12.tr ⟨fun k _ => by rw [u1], fun a _ => by rw [u2], fun a t _ _ => by rw [u2], fun j hj => by rw [u3 j, if_neg (by omega)]⟩
          have e5 : (tP σ1 5 (sh s) 0 (some q)).2.2 5 (sh s) 0 = some q := by rw [tP_s, vup_e]; rfl
          refine (h.shs (R := fun _ => False) hs (fun _ z => z.elim) (hA.ks.tr Ks.tP) hm (Or.inr (Or.inr ⟨q, k, n, e5, r1, ?_, r2, hk, r3, hn, ?_, ?_, ?_, fun i hi => ?_⟩)) (fun s' hs' ne o' q1 q2 q3 => ?_)).rl
          · exact r6
          · rw [u2]; exact v14
          · rw [u2]; exact v15
          · rw [u2]; exact v16
          · have z : u.2.2 18 (160 * s + i) = 0 := by rw [u3, if_pos (by omega)]
            rw [z]
            unfold rv rok
            have e1 : (tP σ1 5 (sh s) 0 (some q)).1 11 q i = 0 := r4 i
            have e2 : (tP σ1 5 (sh s) 0 (some q)).2.1 11 q i = 0 := r5 i
            rw [e1, e2]
            refine ⟨?_, fun _ => by decide, fun _ => by decide⟩
            by_cases c3 : k = 3
            · rw [if_pos c3]
            · rw [if_neg c3]; rfl
          · rw [e5] at q2
            cases q2
            have hr := (h.she hs').2.2.role h.rc q1
            exact (hF (7, q) hr).1 rfl
        have nk : ¬ (nI k < 0 ∨ 3 < nI k) := fun z => z.elim d d'
        have nn : (¬ nI n < 0) ∧ (nI n).toNatClampNeg ≤ 160 := ⟨c, by rw [nI_clamp (by omega)]; exact hn⟩
        have ke : ∀ j, j ≤ 3 → nI k = nI j → k = j := fun j hj z => (nI_eq (by omega) (by omega)).mp z
        unfold xw_S_newRow
        rw [show (nI n).toNatClampNeg = n from nI_clamp (by omega)] at nn ⊢
        refine ⟨fun z => absurd z nk, fun z => ⟨nn.1, nn.2, fun q δ1 σ1 hN => ?_⟩, fun z => ⟨nn.1, nn.2, fun q δ1 σ1 hN => ?_⟩, fun z => ⟨nn.1, nn.2, fun q δ1 σ1 hN => ?_⟩, fun z => ⟨nn.1, nn.2, fun q δ1 σ1 hN => ?_⟩⟩
        · have := ke 0 (by decide) z
          subst this
          rintro σ12 rfl
          exact go q δ1 σ1 hN
        · have := ke 1 (by decide) z
          subst this
          rintro σ12 rfl
          exact go q δ1 σ1 hN
        · have := ke 2 (by decide) z
          subst this
          rintro σ12 rfl
          exact go q δ1 σ1 hN
        · have := ke 3 (by decide) z
          subst this
          rintro σ12 rfl
          exact go q δ1 σ1 hN
