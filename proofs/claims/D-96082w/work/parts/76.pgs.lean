/-! restore -/
theorem pl_restore : Pl_restore RL := by
  intro δ σ σm x h
  obtain ⟨G, w, tr, sh, h⟩ := h
  have hn := h.n
  unfold xw_S_restore xw_S_restore_12
  have him := h.2.2.2.1.2.2.2.2.2.2.2.2.2.2.2
  rcases him with ⟨i1, i2⟩ | ⟨im, GI, i1, i2, i3, i4, i5, i6, i7, i8⟩
  · refine ⟨fun _ => xp_need (b := false) (fun _ q δ1 σ1 hN => xp_refuse 6 (by decide) (by decide) h hN (fun σ2 hr => ?_)) (fun z => by cases z), fun o z => by rw [i1] at z; cases z⟩
    unfold mw_restore
    exact ⟨fun z => absurd i2 z, fun _ => mp_no 6 (by decide) (by decide) ⟨rfl, hr⟩⟩
  · refine ⟨fun z => by (rw [i1] at z; cases z), fun o1 _ => xp_need (b := true) (fun z => by cases z) (fun _ => ?_)⟩
    rintro q δ2 σ3 ⟨hA, hF, r1, -, -, -, -, r8, r9, r10⟩
    have hq : gI δ2 q := ⟨r1, r8, r9, r10⟩
    have h3 := h.kp hA.kp
    have wq : w ≠ q := (hF (6, w) h.gw.1).1
    have tq : tr ≠ q := (hF (6, tr) h.gt.1).1
    have iq : im ≠ q := (hF (6, im) i4.1).1
    have e05 : σ3.2.2 0 x 5 = some im := by rw [(hA.2 (0, x) h.m0).2.2]; exact i1
    have c3 : RC GI δ2 σ3 im := i6.ag i4 hA
    refine ⟨fun z => by (rw [e05] at z; cases z), fun o8 z8 => ?_⟩
    rw [e05] at z8
    cases z8
    refine xp_take c3 (i4.m hA.1) iq i5.1 i5.2.1 (fun σ7 c7 k7 => ?_)
    have h7 := h.kp (hA.fr hF k7).kp
    have c7i : RC GI δ2 σ7 im := i6.ag i4 (hA.fr hF k7)
    rintro σ8 rfl
    -- the world with the new ground
    have e3 : (tP σ7 0 x 4 (some q)).2.2 0 x 3 = some tr := by rw [tP_s, vup_e, if_neg (by decide)]; exact h7.tE
    have e4 : (tP σ7 0 x 4 (some q)).2.2 0 x 4 = some q := by rw [tP_s, vup_e, if_pos rfl]
    have e5 : (tP σ7 0 x 4 (some q)).2.2 0 x 5 = some im := by
      rw [tP_s, vup_e, if_neg (by decide), ((hA.fr hF k7).2 (0, x) h.m0).2.2]; exact i1
    have hn' := i5.1
    -- what a shelf holds in the end
    have hold : ∀ s, s < 8 → ∃ v : Option Nat, (σ7.2.2 5 (sh s) 0 = none ∧ σm.2.1 14 s = 0 ∧ v = none) ∨ (∃ o t, σ7.2.2 5 (sh s) 0 = some o ∧ t < 8 ∧ (7, o) ∈ δ2.1 ∧ (∃ k, k ≤ 6 ∧ δ2.2.2.1 o = 5 + k) ∧ σ7.1 7 o 0 = nI t ∧ σm.2.1 14 s = 2 ∧ σm.2.1 17 s = nI t ∧ v = if t < gN GI then σ7.2.2 8 q t else none) ∨ (∃ o k n, σ7.2.2 5 (sh s) 0 = some o ∧ HRr δ2 σ7 σm s o k n ∧ v = some o) := by
      intro s hs
      refine h7.held hs (fun a b => ⟨none, Or.inl ⟨a, b, rfl⟩⟩) (fun o t a1 a2 a3 a4 a5 a6 a7 a8 a9 => ⟨_, Or.inr (Or.inl ⟨o, t, a1, by omega, a4, ⟨_, a6, a5⟩, a7, a8, a9, rfl⟩)⟩) (fun o k n a1 a2 => ⟨_, Or.inr (Or.inr ⟨o, k, n, a1, a2, rfl⟩)⟩)
    have holdF : ∃ F : Nat → Option Nat, ∀ s, s < 8 → (σ7.2.2 5 (sh s) 0 = none ∧ σm.2.1 14 s = 0 ∧ F s = none) ∨ (∃ o t, σ7.2.2 5 (sh s) 0 = some o ∧ t < 8 ∧ (7, o) ∈ δ2.1 ∧ (∃ k, k ≤ 6 ∧ δ2.2.2.1 o = 5 + k) ∧ σ7.1 7 o 0 = nI t ∧ σm.2.1 14 s = 2 ∧ σm.2.1 17 s = nI t ∧ F s = if t < gN GI then σ7.2.2 8 q t else none) ∨ (∃ o k n, σ7.2.2 5 (sh s) 0 = some o ∧ HRr δ2 σ7 σm s o k n ∧ F s = some o) := by
      refine ⟨fun s => if hs : s < 8 then (hold s hs).choose else none, fun s hs => ?_⟩
      have e : (fun s => if hs : s < 8 then (hold s hs).choose else none) s = (hold s hs).choose := dif_pos hs
      rw [e]
      exact (hold s hs).choose_spec
    obtain ⟨F, hFd⟩ := holdF
    have m1 := h7.2.2.2.1.1
    have inj := h7.2.2.2.2.2.1
    unfold xw_S_shelvesFollow
    refine lpU (fun n (u : XSt) i => xw_S_shelvesFollow_10 δ2 _ x n x 8 i u) (fun s u => u.1 = σ7.1 ∧ u.2.1 = σ7.2.1 ∧ (∀ k i, ¬ (k = 5) → u.2.2 k i = (tP σ7 0 x 4 (some q)).2.2 k i) ∧ ∀ s', s' < 8 → u.2.2 5 (sh s') 0 = if s' < s then F s' else σ7.2.2 5 (sh s') 0) 8 (tP σ7 0 x 4 (some q)) ⟨rfl, rfl, fun _ _ _ => rfl, fun s' _ => by rw [if_neg (by omega)]; rfl⟩ ?_ ?_
    · rintro n u ⟨u1, u2, u3, u4⟩
      show xw_S_shelvesFollow_10_b δ2 (fun σ12 => ∃ o13, σ12.2.2 0 x 4 = some o13 ∧ mw_restore (fun r2 u => σ12.1 6 o13 0 = r2 ∧ RL δ2 σ12 u x) σm) x (xw_S_shelvesFollow_10 δ2 _ x n) x 8 (nI 8) u
      unfold xw_S_shelvesFollow_10_b
      refine br_t (nI_le (Nat.le_refl 8) (by decide)) ⟨q, by rw [u3 0 x (by decide)]; exact e4, ?_⟩
      -- the model
      unfold mw_restore
      refine br_n i7 (mp_allR (Or.inr rfl) (fun v hv => ?_))
      have rmv : RM GI v := hv.rm i8 hn'
      obtain ⟨v1, v2, v3, v4, v5⟩ := hv
      refine lpU (fun n (z : MSt) i => mw_restore_25 (fun r2 u' => u.1 6 q 0 = r2 ∧ RL δ2 u u' x) n i z) (fun s z => z.1 = v.1 ∧ z.2.2 = v.2.2 ∧ (∀ c, c ≠ 14 → z.2.1 c = v.2.1 c) ∧ ∀ s', s' < 8 → z.2.1 14 s' = if s' < s ∧ σm.2.1 14 s' = 2 ∧ ¬ σm.2.1 17 s' < nI (gN GI) then 0 else σm.2.1 14 s') 8 v ⟨rfl, rfl, fun _ _ => rfl, fun s' _ => by rw [if_neg (by omega), v3 14 (by decide)]⟩ ?_ ?_
      · rintro n z ⟨z1, z2, z3, z4⟩
        show mw_restore_25_b (fun r2 u' => u.1 6 q 0 = r2 ∧ RL δ2 u u' x) (mw_restore_25 _ n) (nI 8) z
        unfold mw_restore_25_b
        refine br_t (nI_le (Nat.le_refl 8) (by decide)) ⟨?_, ?_⟩
        · rw [u1, c7.1, z1, rmv.1]
        · -- the relation again
          have rmz : RM GI z := by
            unfold RM
            rw [z1, z3 7 (by decide), z3 8 (by decide), z3 9 (by decide), z3 10 (by decide), z3 11 (by decide), z3 12 (by decide), z3 13 (by decide)]
            exact rmv
          have uP : ∀ k i, ¬ (k = 5) → ¬ (k = 0) → u.2.2 k i = σ7.2.2 k i := fun k i h5 h0 => by
            rw [u3 k i h5]
            exact tP_n _ _ _ (fun z => h0 z.1)
          have rcq : ∀ (g : Nat) (G' : Gd), RC G' δ2 σ7 g → RC G' δ2 u g := by
            intro g G' hc
            unfold RC at hc ⊢
            rw [u1, uP 8 g (by decide) (by decide)]
            exact hc
          obtain ⟨p1, p2, p3, ⟨b0, b1, b2, b3, b4, b5, b6, b7, b8, b9, b10, b11⟩, p5⟩ := h7
          refine ⟨GI, q, tr, sh, i5, rmz, rcq q GI c7, ⟨b0, hq, b2, tq, by rw [u3 0 x (by decide)]; exact e3, by rw [u3 0 x (by decide)]; exact e4, ?_, ?_, ?_, ?_, ?_, Or.inr ⟨im, GI, by rw [u3 0 x (by decide)]; exact e5, i2, iq, i4.m hA.1, i5, rcq im GI c7i, ?_, ?_⟩⟩, ⟨fun s hs => ?_, inj, fun s s' o hs hs' q1 q2 q3 => ?_⟩⟩
          · rw [u1, z3 6 (by decide), v3 6 (by decide)]; exact b6
          · rw [u1, z1, v1 5 (by decide)]; exact b7
          · rw [u1, z1, v1 36 (by decide)]; exact b8
          · rw [u1, z3 35 (by decide), v3 35 (by decide)]; exact b9
          · rw [z3 20 (by decide), v3 20 (by decide)]; exact b10
          · rw [z1, v1 37 (by decide)]; exact i7
          · rw [z3 28 (by decide), v3 28 (by decide)]; exact i8
          · refine ⟨by rw [uP 1 x (by decide) (by decide)]; exact (p5.1 s hs).1, (p5.1 s hs).2.1, ?_⟩
            have hu := u4 s hs
            rw [if_pos hs] at hu
            have hz := z4 s hs
            unfold HR
            rw [hu, hz, z3 17 (by decide), v3 17 (by decide), uP 8 q (by decide) (by decide)]
            rcases hFd s hs with ⟨a1, a2, a3⟩ | ⟨o, t, a1, a2, a3, a4, a5, a6, a7, a8⟩ | ⟨o, k, n, a1, a2, a3⟩
            · refine Or.inl ⟨a3, ?_⟩
              rw [if_neg (fun y => by rw [a2] at y; exact absurd y.2.1 (by decide))]; exact a2
            · by_cases ct : t < gN GI
              · rw [if_pos ct] at a8
                obtain ⟨-, -, o', g1, -⟩ := c7.2.2.2.2.2.2 t ct
                rw [if_neg (fun y => y.2.2 (by rw [a7]; exact nI_lt ct (by omega)))]
                exact Or.inr (Or.inl ⟨o', t, by rw [a8]; exact g1, ct, g1, a6, a7⟩)
              · rw [if_neg ct] at a8
                refine Or.inl ⟨a8, ?_⟩
                rw [if_pos ⟨hs, a6, fun y => ct (by rw [a7] at y; exact (nI_ltI (by omega) (by omega)).mp y)⟩]
            · refine Or.inr (Or.inr ⟨o, k, n, a3, ?_⟩)
              obtain ⟨d1, d2, d3, d4, d5, d6, d7, d8, d9, d10⟩ := a2
              refine ⟨d1, d2, d3, d4, d5, d6, ?_, by rw [z3 15 (by decide), v3 15 (by decide)]; exact d8, by rw [z3 16 (by decide), v3 16 (by decide)]; exact d9, fun i hi => ?_⟩
              · rw [hz, if_neg (fun y => by rw [d7] at y; exact absurd y.2.1 (by decide))]; exact d7
              · unfold rv rok
                rw [u1, u2, z2, v2]
                exact d10 i hi
          · have hu := u4 s hs
            rw [if_pos hs] at hu
            have hu' := u4 s' hs'
            rw [if_pos hs'] at hu'
            rw [hu] at q1
            rw [hu'] at q2
            have back : ∀ s, s < 8 → F s = some o → σ7.2.2 5 (sh s) 0 = some o := by
              intro s hs hf
              rcases hFd s hs with ⟨a1, a2, a3⟩ | ⟨o', t, a1, a2, a3, a4, a5, a6, a7, a8⟩ | ⟨o', k, n, a1, a2, a3⟩
              · rw [a3] at hf; cases hf
              · exfalso
                by_cases ct : t < gN GI
                · rw [if_pos ct] at a8
                  obtain ⟨-, -, o2, g1, -, g3, -⟩ := c7.2.2.2.2.2.2 t ct
                  rw [a8, g1] at hf
                  cases hf
                  have := (i5.2.2.2.1 t ct).1
                  omega
                · rw [if_neg ct] at a8
                  rw [a8] at hf; cases hf
              · rw [a3] at hf; cases hf; exact a1
            exact p5.2.2 s s' o hs hs' (back s hs q1) (back s' hs' q2) q3
      · rintro n s z hs ⟨z1, z2, z3, z4⟩ L
        show mw_restore_25_b (fun r2 u' => u.1 6 q 0 = r2 ∧ RL δ2 u u' x) (mw_restore_25 _ n) (nI s) z
        unfold mw_restore_25_b
        have e14 : z.2.1 14 s = σm.2.1 14 s := by rw [z4 s hs, if_neg (by omega)]
        have e17 : z.2.1 17 s = σm.2.1 17 s := by rw [z3 17 (by decide), v3 17 (by decide)]
        have e0 : z.1 0 = nI (gN GI) := by rw [z1]; exact rmv.1
        rw [pcl hs, e14, e17, e0]
        have same : ¬ (σm.2.1 14 s = 2 ∧ ¬ σm.2.1 17 s < nI (gN GI)) → ∀ s', s' < 8 → z.2.1 14 s' = if s' < s + 1 ∧ σm.2.1 14 s' = 2 ∧ ¬ σm.2.1 17 s' < nI (gN GI) then 0 else σm.2.1 14 s' := by
          intro c s' hs'
          rw [z4 s' hs']
          by_cases e : s' = s
          · subst e; rw [if_neg (fun y => absurd y.1 (by omega)), if_neg (fun y => c y.2)]
          · have : (s' < s + 1) = (s' < s) := by rw [eq_iff_iff]; omega
            simp only [this]
        refine br_f (nI_ge (b := 8) hs (by decide)) ⟨pin hs, fun c => L z ⟨z1, z2, z3, same (fun y => c y.1)⟩, fun c => ⟨pin hs, fun d => L z ⟨z1, z2, z3, same (fun y => y.2 d)⟩, fun d => ⟨pin hs, ?_⟩⟩⟩
        rintro σ9 rfl
        refine L _ ⟨z1, z2, fun c hc => by rw [sI_n _ _ _ hc]; exact z3 c hc, fun s' hs' => ?_⟩
        rw [sI_s, upd_e]
        by_cases e : s' = s
        · subst e; rw [if_pos rfl, if_pos ⟨by omega, c, d⟩]
        · rw [if_neg e, z4 s' hs']
          have : (s' < s + 1) = (s' < s) := by rw [eq_iff_iff]; omega
          simp only [this]
    · rintro n s u hs ⟨u1, u2, u3, u4⟩ L
      show xw_S_shelvesFollow_10_b δ2 (fun σ12 => ∃ o13, σ12.2.2 0 x 4 = some o13 ∧ mw_restore (fun r2 u => σ12.1 6 o13 0 = r2 ∧ RL δ2 σ12 u x) σm) x (xw_S_shelvesFollow_10 δ2 _ x n) x 8 (nI s) u
      unfold xw_S_shelvesFollow_10_b
      have uP : ∀ k i, ¬ (k = 5) → ¬ (k = 0) → u.2.2 k i = σ7.2.2 k i := fun k i h5 h0 => by
        rw [u3 k i h5]
        exact tP_n _ _ _ (fun z => h0 z.1)
      have hu := u4 s hs
      rw [if_neg (by omega)] at hu
      rw [pcl hs]
      refine br_f (nI_ge (b := 8) hs (by decide)) ⟨pin hs, sh s, by rw [uP 1 x (by decide) (by decide)]; exact (h7.she hs).1, ?_⟩
      have stay : F s = u.2.2 5 (sh s) 0 → ∀ s', s' < 8 → u.2.2 5 (sh s') 0 = if s' < s + 1 then F s' else σ7.2.2 5 (sh s') 0 := by
        intro c s' hs'
        by_cases e : s' = s
        · subst e; rw [if_pos (by omega)]; exact c.symm
        · rw [u4 s' hs']
          have : (s' < s + 1) = (s' < s) := by rw [eq_iff_iff]; omega
          simp only [this]
      have put : ∀ v, F s = v → (tP u 5 (sh s) 0 v).1 = σ7.1 ∧ (tP u 5 (sh s) 0 v).2.1 = σ7.2.1 ∧ (∀ k i, ¬ (k = 5) → (tP u 5 (sh s) 0 v).2.2 k i = (tP σ7 0 x 4 (some q)).2.2 k i) ∧ ∀ s', s' < 8 → (tP u 5 (sh s) 0 v).2.2 5 (sh s') 0 = if s' < s + 1 then F s' else σ7.2.2 5 (sh s') 0 := by
        intro v hv
        refine ⟨u1, u2, fun k i hk => ?_, fun s' hs' => ?_⟩
        · rw [tP_n _ _ _ (fun z => hk z.1)]; exact u3 k i hk
        · by_cases e : s' = s
          · subst e; rw [tP_s, vup_e, if_pos rfl, if_pos (by omega)]; exact hv.symm
          · rw [tP_n _ _ _ (fun z => e (inj s' s hs' hs z.2)), u4 s' hs']
            have : (s' < s + 1) = (s' < s) := by rw [eq_iff_iff]; omega
            simp only [this]
      unfold xw_Sh_holdsThing
      rw [hu]
      rcases hFd s hs with ⟨a1, a2, a3⟩ | ⟨o, t, a1, a2, a3, ⟨k, k6, a4⟩, a5, a6, a7, a8⟩ | ⟨o, k, n', a1, a2, a3⟩
      · refine ⟨fun _ => ⟨fun _ => L u ⟨u1, u2, u3, stay (by rw [a3, hu, a1])⟩, fun z => absurd rfl z⟩, fun o1 z => by rw [a1] at z; cases z⟩
      · refine ⟨fun z => by (rw [a1] at z; cases z), fun o1 z => ?_⟩
        rw [a1] at z
        cases z
        refine br_t (by rw [a4]; exact in7 _ k6) ⟨fun z => absurd z (by decide), fun _ => ⟨fun z => by (rw [a1] at z; cases z), fun o6 z6 => ?_⟩⟩
        rw [a1] at z6
        cases z6
        refine ⟨by rw [a4]; exact in7 _ k6, q, by rw [u3 0 x (by decide)]; exact e4, ?_⟩
        have rcu : RC GI δ2 u q := by
          have c7' := c7
          unfold RC at c7' ⊢
          rw [u1, uP 8 q (by decide) (by decide)]
          exact c7'
        rw [u1, a5, pcl a2]
        refine xp_isThing rcu hn' (fun c => ⟨fun _ => ?_, fun z => absurd rfl z⟩) (fun i hi e => ⟨fun z => absurd z (by decide), fun _ => ?_⟩)
        · rintro σ11 rfl
          refine L _ (put none ?_)
          rw [a8, if_neg (fun ct => c ⟨t, ct, rfl⟩)]
        · have ei : t = i := (nI_eq (by omega) (by omega)).mp e
          subst ei
          obtain ⟨-, -, o', g1, -⟩ := c7.2.2.2.2.2.2 t hi
          refine ⟨pin a2, o', by rw [uP 8 q (by decide) (by decide)]; exact g1, ?_⟩
          rintro σ14 rfl
          refine L _ (put (some o') ?_)
          rw [a8, if_pos hi]; exact g1
      · refine ⟨fun z => by (rw [a1] at z; cases z), fun o1 z => ?_⟩
        rw [a1] at z
        cases z
        exact br_f (by rw [a2.2.2.1]; exact nin7 _ a2.2.2.2.1) ⟨fun _ => L u ⟨u1, u2, u3, stay (by rw [a3, hu, a1])⟩, fun z => absurd rfl z⟩
