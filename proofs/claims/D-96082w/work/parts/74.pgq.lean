/-! copy -/
theorem mp_cpl {σm : MSt} {K : Int32 → MSt → Prop} {p q i j n : Nat} (hp : p < 8) (hq : q < 8) (hi : i + n ≤ 160) (hj : j + n ≤ 160) (hK : ∀ u, u.1 = σm.1 → u.2.1 = σm.2.1 → (∀ a, u.2.2 18 a = if 160 * q + j ≤ a ∧ a < 160 * q + j + n then σm.2.2 18 (160 * p + i + (a - (160 * q + j))) else σm.2.2 18 a) → K 1 u) : ∃ m, mw_copy_167 K m (nI p) (nI q) (nI i) (nI j) (nI n) 0 σm := by
  refine lpU (fun m (u : MSt) k => mw_copy_167 K m (nI p) (nI q) (nI i) (nI j) (nI n) k u) (fun k u => u.1 = σm.1 ∧ u.2.1 = σm.2.1 ∧ u.2.2 18 = σm.2.2 18 ∧ ∀ a, a < k → u.2.2 19 a = σm.2.2 18 (160 * p + i + a)) n σm ⟨rfl, rfl, rfl, fun a ha => by omega⟩ ?_ ?_
  · rintro m u ⟨u1, u2, u3, u4⟩
    show mw_copy_167_b K (mw_copy_167 K m) (nI p) (nI q) (nI i) (nI j) (nI n) (nI n) u
    unfold mw_copy_167_b
    refine br_t (nI_le (Nat.le_refl _) (by omega)) ?_
    refine lpU (fun m (v : MSt) k => mw_copy_205 K m (nI q) (nI j) (nI n) k v) (fun k v => v.1 = σm.1 ∧ v.2.1 = σm.2.1 ∧ v.2.2 19 = u.2.2 19 ∧ ∀ a, v.2.2 18 a = if 160 * q + j ≤ a ∧ a < 160 * q + j + k then σm.2.2 18 (160 * p + i + (a - (160 * q + j))) else σm.2.2 18 a) n u ⟨u1, u2, rfl, fun a => by rw [if_neg (by omega), u3]⟩ ?_ ?_
    · rintro m v ⟨v1, v2, v3, v4⟩
      show mw_copy_205_b K (mw_copy_205 K m) (nI q) (nI j) (nI n) (nI n) v
      unfold mw_copy_205_b
      exact br_t (nI_le (Nat.le_refl _) (by omega)) (hK v v1 v2 v4)
    · rintro m k v hk ⟨v1, v2, v3, v4⟩ L
      show mw_copy_205_b K (mw_copy_205 K m) (nI q) (nI j) (nI n) (nI k) v
      unfold mw_copy_205_b
      have e1 : (160 : Int32) * nI q + nI j + nI k = nI (160 * q + j + k) := by
        show nI 160 * nI q + nI j + nI k = _
        rw [pk_mul, nI_add, nI_add]
      rw [e1, nI_clamp (n := 160 * q + j + k) (by omega), nI_clamp (n := k) (by omega)]
      refine br_f (nI_ge hk (by omega)) ⟨vp_in_nI (show k < 160 by omega) (by decide), vp_in_nI (show 160 * q + j + k < 1280 by omega) (by decide), ?_⟩
      rintro σ4 rfl
      refine L _ ⟨v1, v2, ?_, fun a => ?_⟩
      · rw [sJ_n _ _ _ (by decide)]; exact v3
      · rw [sJ_s, updL_e, v4 a, v3, u4 k hk]
        by_cases q1 : a = 160 * q + j + k
        · rw [if_pos q1, if_pos (by omega), show a - (160 * q + j) = k by omega]
        · rw [if_neg q1]
          by_cases q2 : 160 * q + j ≤ a ∧ a < 160 * q + j + k
          · rw [if_pos q2, if_pos (by omega)]
          · rw [if_neg q2, if_neg (by omega)]
  · rintro m k u hk ⟨u1, u2, u3, u4⟩ L
    show mw_copy_167_b K (mw_copy_167 K m) (nI p) (nI q) (nI i) (nI j) (nI n) (nI k) u
    unfold mw_copy_167_b
    have e1 : (160 : Int32) * nI p + nI i + nI k = nI (160 * p + i + k) := by
      show nI 160 * nI p + nI i + nI k = _
      rw [pk_mul, nI_add, nI_add]
    rw [e1, nI_clamp (n := 160 * p + i + k) (by omega), nI_clamp (n := k) (by omega)]
    refine br_f (nI_ge hk (by omega)) ⟨vp_in_nI (show 160 * p + i + k < 1280 by omega) (by decide), vp_in_nI (show k < 160 by omega) (by decide), ?_⟩
    rintro σ4 rfl
    refine L _ ⟨u1, u2, ?_, fun a ha => ?_⟩
    · rw [sJ_n _ _ _ (by decide)]; exact u3
    · rw [sJ_s, updL_e]
      by_cases q1 : a = k
      · rw [if_pos q1, u3, q1]
      · rw [if_neg q1]; exact u4 a (by omega)
theorem xp_held {δ : XSh} {σ : XSt} {K : Prop} {o k : Nat} (hc : δ.2.2.1 o = 12 + k) (hk : k ≤ 3) (h : K) : xv_R_held δ σ K o := by
  unfold xv_R_held xw_By_held xw_So_held xw_In_held xw_Lo_held
  exact ⟨fun _ => h, fun _ => h, fun _ => h, fun _ => h⟩
section PQ
variable {G : Gd} {tr x w : Nat} {sh : Nat → Nat} {δ : XSh} {σ : XSt} {σm : MSt} {K : Int32 → MSt → Prop} {p q : Nat} {x3 x4 x5 : Int32}
theorem xp_holdsThing {K : Int32 → Prop} {s : Nat} (h : RQ G w tr sh δ σ σm x) (hs : s < 8) (h1 : σm.2.1 14 s = 2 → K 1) (h0 : ¬ σm.2.1 14 s = 2 → K 0) : xw_Sh_holdsThing δ σ K (sh s) := by
  unfold xw_Sh_holdsThing
  refine h.held hs (fun a b => ?_) (fun o t a1 a2 a3 a4 a5 a6 a7 a8 a9 => ?_) (fun o k n a1 a2 => ?_)
  · exact ⟨fun _ => h0 (by rw [b]; decide), fun o z => by rw [a] at z; cases z⟩
  · refine ⟨fun z => by (rw [a1] at z; cases z), fun o1 z => ?_⟩
    rw [a1] at z
    cases z
    exact br_t (by rw [a5]; exact in7 _ a6) (h1 a8)
  · refine ⟨fun z => by (rw [a1] at z; cases z), fun o1 z => ?_⟩
    rw [a1] at z
    cases z
    exact br_f (by rw [a2.2.2.1]; exact nin7 _ a2.2.2.2.1) (h0 (by rw [a2.2.2.2.2.2.2.1]; decide))
theorem mc_2p (hp : p < 8) (hq : q < 8) (c : σm.2.1 14 p = 2 ∨ σm.2.1 14 q = 2) (hK : K (-nI 2) (sI σm 6 2 (σm.2.1 6 2 + 1))) : mw_copy K (nI p) (nI q) x3 x4 x5 σm := by
  unfold mw_copy mw_copy_77
  refine mp_shelf_t hp ⟨fun z => absurd z (by decide), fun _ => mp_shelf_t hq ⟨fun _ => ⟨pin hp, ?_⟩, fun z => absurd z (by decide)⟩⟩
  rw [pcl hp, pcl hq]
  refine ⟨fun _ => mp_no 2 (by decide) (by decide) hK, fun a => ⟨pin hq, fun _ => mp_no 2 (by decide) (by decide) hK, fun b => ?_⟩⟩
  exact absurd c (fun z => z.elim a b)
theorem mc_go (hp : p < 8) (hq : q < 8) (cp : ¬ σm.2.1 14 p = 2) (cq : ¬ σm.2.1 14 q = 2) (h84 : (σm.2.1 14 p = 1 → σm.2.1 14 q = 1 → σm.2.1 15 p = σm.2.1 15 q) → mw_copy_84 K (nI p) (nI q) x3 x4 x5 σm) (hne : σm.2.1 14 p = 1 → σm.2.1 14 q = 1 → ¬ σm.2.1 15 p = σm.2.1 15 q → K (-nI 2) (sI σm 6 2 (σm.2.1 6 2 + 1))) : mw_copy K (nI p) (nI q) x3 x4 x5 σm := by
  unfold mw_copy mw_copy_77
  refine mp_shelf_t hp ⟨fun z => absurd z (by decide), fun _ => mp_shelf_t hq ⟨fun _ => ⟨pin hp, ?_⟩, fun z => absurd z (by decide)⟩⟩
  rw [pcl hp, pcl hq]
  refine br_f cp ⟨pin hq, br_f cq ⟨pin hp, fun a => h84 (fun z => absurd z a), fun a => ⟨pin hq, fun b => h84 (fun _ z => absurd z b), fun b => ⟨pin hp, pin hq, fun c => h84 (fun _ _ => c), fun c => mp_no 2 (by decide) (by decide) (hne a b c)⟩⟩⟩⟩
end PQ
theorem cpy_m {a b n : Nat} {x3 x4 x5 : Int32} (ha : a ≤ 160) (hb : b ≤ 160) (h5 : ¬ x5 < 0) : (Cpy x3 x4 x5 a b → ¬ x3 < 0 ∧ ¬ x4 < 0 ∧ ¬ nI a - x5 < x3 ∧ x4 ≤ nI b - x5) ∧ ((¬ x3 < 0 ∧ ¬ x4 < 0 ∧ ¬ nI a - x5 < x3 ∧ x4 ≤ nI b - x5) → Cpy x3 x4 x5 a b) := by
  have i5 : ∃ n : Nat, n < 2 ^ 31 ∧ x5 = nI n := nI_of h5
  obtain ⟨n5, hn5, e5⟩ := i5
  have sub : ∀ c, c ≤ 160 → (nI c - nI n5).toInt = (c : Int) - n5 := by
    intro c hc
    rw [Int32.toInt_sub, nI_toInt (by omega), nI_toInt hn5]
    exact Int.bmod_eq_of_le (by omega) (by omega)
  have z0 : (0 : Int32).toInt = 0 := by decide
  subst e5
  unfold Cpy
  rw [nI_clamp hn5]
  constructor
  · rintro ⟨c1, c2, c3, c4, c5⟩
    obtain ⟨n3, hn3, e3⟩ := nI_of c1
    obtain ⟨n4, hn4, e4⟩ := nI_of c2
    subst e3
    subst e4
    rw [nI_clamp hn3] at c4
    rw [nI_clamp hn4] at c5
    refine ⟨c1, c2, ?_, ?_⟩
    · rw [Int32.lt_iff_toInt_lt, sub a ha, nI_toInt hn3]; omega
    · rw [Int32.le_iff_toInt_le, sub b hb, nI_toInt hn4]; omega
  · rintro ⟨c1, c2, c3, c4⟩
    obtain ⟨n3, hn3, e3⟩ := nI_of c1
    obtain ⟨n4, hn4, e4⟩ := nI_of c2
    subst e3
    subst e4
    rw [Int32.lt_iff_toInt_lt, sub a ha, nI_toInt hn3] at c3
    rw [Int32.le_iff_toInt_le, sub b hb, nI_toInt hn4] at c4
    rw [nI_clamp hn3, nI_clamp hn4]
    exact ⟨c1, c2, h5, by omega, by omega⟩
theorem pl_copy : Pl_copy RL := by
  intro δ σ σm x h x1 x2 x3 x4 x5
  obtain ⟨G, w, tr, sh, h⟩ := h
  unfold xw_S_copy
  refine xp_shelf h (fun c z δ1 σ1 hN => ?_) (fun p hp e => ?_)
  · unfold xw_S_copy_149
    refine xp_refuse 1 (by decide) (by decide) h hN (fun σ2 hr => ?_)
    unfold mw_copy mw_copy_16
    exact mp_shelf_f c ⟨fun _ => mp_no 1 (by decide) (by decide) ⟨rfl, hr⟩, fun z => absurd rfl z⟩
  · subst e
    refine xp_shelf h (fun c z δ1 σ1 hN => ?_) (fun q hq e => ?_)
    · unfold xw_S_copy_149
      refine xp_refuse 1 (by decide) (by decide) h hN (fun σ2 hr => ?_)
      unfold mw_copy mw_copy_16
      exact mp_shelf_t hp ⟨fun z => absurd z (by decide), fun _ => mp_shelf_f c ⟨fun z => absurd rfl z, fun _ => mp_no 1 (by decide) (by decide) ⟨rfl, hr⟩⟩⟩
    · subst e
      have two : (σm.2.1 14 p = 2 ∨ σm.2.1 14 q = 2) → xw_S_copy_34 (fun r δ1 σ1 => mw_copy (fun r2 u => r = r2 ∧ RL δ1 σ1 u x) (nI p) (nI q) x3 x4 x5 σm) x x3 x4 x5 (sh p) (sh q) δ σ := by
        intro c
        unfold xw_S_copy_34 xw_S_copy_35 xw_S_copy_149
        exact xp_need (b := false) (fun _ z δ1 σ1 hN => xp_refuse 2 (by decide) (by decide) h hN (fun σ2 hr => mc_2p hp hq c ⟨rfl, hr⟩)) (fun z => by cases z)
      refine xp_holdsThing h hp (fun c => ⟨fun _ => two (Or.inl c), fun z => absurd z (by decide)⟩) (fun cp => ⟨fun z => absurd rfl z, fun _ => xp_holdsThing h hq (fun c => ⟨fun _ => two (Or.inr c), fun z => absurd z (by decide)⟩) (fun cq => ⟨fun z => absurd rfl z, fun _ => ?_⟩)⟩)
      -- neither is a thing
      have m3 : (σm.2.1 14 p = 0 ∨ σm.2.1 14 q = 0) → ∀ z δ1 σ1, NewRe (-nI 3) δ σ z δ1 σ1 → xw_S_refused δ1 (fun r σ2 => mw_copy (fun r2 u => r = r2 ∧ RL δ1 σ2 u x) (nI p) (nI q) x3 x4 x5 σm) x z σ1 := by
        intro c z δ1 σ1 hN
        refine xp_refuse 3 (by decide) (by decide) h hN (fun σ2 hr => mc_go hp hq cp cq (fun _ => ?_) (fun a b _ => ?_))
        · unfold mw_copy_84 mw_copy_102
          rw [pcl hp, pcl hq]
          refine ⟨pin hp, fun _ => mp_no 3 (by decide) (by decide) ⟨rfl, hr⟩, fun a => ⟨pin hq, fun b => ?_, fun _ => mp_no 3 (by decide) (by decide) ⟨rfl, hr⟩⟩⟩
          exact absurd c (fun y => y.elim a b)
        · exfalso
          rcases c with c | c
          · rw [c] at a; exact absurd a (by decide)
          · rw [c] at b; exact absurd b (by decide)
      have rows85 : ∀ (hsame : σm.2.1 14 p = 1 → σm.2.1 14 q = 1 → σm.2.1 15 p = σm.2.1 15 q), xw_S_copy_85 (fun r δ1 σ1 => mw_copy (fun r2 u => r = r2 ∧ RL δ1 σ1 u x) (nI p) (nI q) x3 x4 x5 σm) x x3 x4 x5 (sh p) (sh q) δ σ := by
        intro hsame
        unfold xw_S_copy_85 xw_S_copy_149
        refine xp_row h hp (fun a => m3 (Or.inl a)) (fun a => absurd a cp) (fun o k n a1 a2 => xp_row h hq (fun a => m3 (Or.inr a)) (fun a => absurd a cq) (fun o' k' n' b1 b2 => ?_))
        have hr := a2
        have hr' := b2
        obtain ⟨d1, d2, d3, d4, d5, d6, d7, d8, d9, d10⟩ := a2
        obtain ⟨f1, f2, f3, f4, f5, f6, f7, f8, f9, f10⟩ := b2
        have ekk : k' = k := by
          have := hsame d7 f7
          rw [d8, f8] at this
          exact ((nI_eq (by omega) (by omega)).mp this).symm
        subst ekk
        unfold xw_S_copy_109 xw_S_copy_149
        refine ⟨fun c => xp_need (b := false) (fun _ z δ1 σ1 hN => xp_refuse 4 (by decide) (by decide) h hN (fun σ2 hr => mc_go hp hq cp cq (fun _ => ?_) (fun a b c => absurd (hsame a b) c))) (fun z => by cases z), fun c => xp_need (b := true) (fun z => by cases z) (fun _ => xp_held d3 d4 (xp_held f3 f4 ⟨by rw [d3, f3], fun cc => ?_, fun cc => ?_⟩))⟩
        · unfold mw_copy_84
          rw [pcl hp, pcl hq, d7, f7]
          exact ⟨pin hp, br_f (by decide) ⟨pin hq, br_n (by decide) ⟨fun z => absurd z (Int32.not_le.mpr c), fun _ => mp_no 4 (by decide) (by decide) ⟨rfl, hr⟩⟩⟩⟩
        · rw [d5, f5] at cc
          obtain ⟨c1, c2, c3, c44⟩ := (cpy_m (n := 0) d6 f6 c).1 cc
          obtain ⟨n3, hn3, e3⟩ := nI_of c1
          obtain ⟨n4, hn4, e4⟩ := nI_of c2
          obtain ⟨n5, hn5, e5⟩ := nI_of c
          subst e3
          subst e4
          subst e5
          obtain ⟨-, -, -, g1, g2⟩ := cc
          rw [nI_clamp hn3, nI_clamp hn5] at g1
          rw [nI_clamp hn4, nI_clamp hn5] at g2
          constructor
          · unfold fitR
            intro cl i hi
            rw [nI_clamp hn5] at hi
            rw [nI_clamp hn3, d3]
            have hk := (d10 (n3 + i) (by omega)).2
            unfold rok at hk
            rcases c4 d4 with e | e | e | e
            · subst e; exact fit8 (hk.1 rfl)
            · subst e; exact fit16 (hk.2 rfl)
            · subst e; rfl
            · subst e; rw [d3] at cl; omega
          · rintro σ12 rfl
            refine mc_go hp hq cp cq (fun _ => ?_) (fun a b c => absurd (hsame a b) c)
            unfold mw_copy_84
            rw [pcl hp, pcl hq, d7, f7, d9, f9]
            refine ⟨pin hp, br_f (by decide) ⟨pin hq, br_n (by decide) (br_t (Int32.not_lt.mp c) (br_f c1 (br_f c2 ⟨pin hp, br_f c3 ⟨pin hq, br_t c44 (mp_cpl hp hq (by omega) (by omega) (fun u u1 u2 u3 => ⟨rfl, ?_⟩))⟩⟩)))⟩⟩
            have val : ∀ (R : XSt → Nat → Prop), True := fun _ => trivial
            unfold cpyR
            rw [d3, nI_clamp hn3, nI_clamp hn4, nI_clamp hn5]
            by_cases k3 : k' = 3
            · subst k3
              rw [if_pos rfl]
              refine (h.els hq b1 hr' KsJa rfl u1 u2 (fun a ha => by rw [u3 a, if_neg (by omega)]) (fun i hi => ⟨?_, fun z => absurd z (by decide), fun z => absurd z (by decide)⟩)).rl
              show (tJa σ 11 o' _).2.1 11 o' i = _
              rw [tJa_s, u3]
              by_cases qi : n4 ≤ i ∧ i < n4 + n5
              · rw [pk_cpy_in qi.1 qi.2, if_pos (by omega)]
                have e := (d10 (n3 + (i - n4)) (by omega)).1
                have e : σ.2.1 11 o (n3 + (i - n4)) = _ := e
                rw [e, show 160 * p + n3 + (160 * q + i - (160 * q + n4)) = 160 * p + (n3 + (i - n4)) by omega]
              · rw [pk_cpy_out (by omega), if_neg (by omega)]
                exact (f10 i hi).1
            · rw [if_neg (by omega)]
              have rvn : ∀ (τ : XSt) (o i : Nat), rv τ k' o i = (τ.1 11 o i).toInt64 := fun τ o i => if_neg k3
              refine (h.els hq b1 hr' KsIa rfl u1 u2 (fun a ha => by rw [u3 a, if_neg (by omega)]) (fun i hi => ?_)).rl
              rw [rvn]
              unfold rok
              rw [tIa_s, u3]
              by_cases qi : n4 ≤ i ∧ i < n4 + n5
              · rw [pk_cpy_in qi.1 qi.2, if_pos (by omega)]
                have e := d10 (n3 + (i - n4)) (by omega)
                rw [rvn] at e
                unfold rok at e
                refine ⟨?_, e.2⟩
                rw [e.1, show 160 * p + n3 + (160 * q + i - (160 * q + n4)) = 160 * p + (n3 + (i - n4)) by omega]
              · rw [pk_cpy_out (by omega), if_neg (by omega)]
                have e := f10 i hi
                rw [rvn] at e
                exact e
        · rw [d5, f5] at cc ⊢
          refine ⟨by omega, by omega, fun _ z δ1 σ1 hN => xp_refuse 5 (by decide) (by decide) h hN (fun σ2 hr => mc_go hp hq cp cq (fun _ => ?_) (fun a b c => absurd (hsame a b) c))⟩
          unfold mw_copy_84 mw_copy_157
          rw [pcl hp, pcl hq, d7, f7, d9, f9]
          refine ⟨pin hp, br_f (by decide) ⟨pin hq, br_n (by decide) (br_t (Int32.not_lt.mp c) ⟨fun _ => mp_no 5 (by decide) (by decide) ⟨rfl, hr⟩, fun c1 => ⟨fun _ => mp_no 5 (by decide) (by decide) ⟨rfl, hr⟩, fun c2 => ⟨pin hp, fun _ => mp_no 5 (by decide) (by decide) ⟨rfl, hr⟩, fun c3 => ⟨pin hq, fun c4 => ?_, fun _ => mp_no 5 (by decide) (by decide) ⟨rfl, hr⟩⟩⟩⟩⟩)⟩⟩
          exact absurd ((cpy_m (n := 0) d6 f6 c).2 ⟨c1, c2, c3, c4⟩) cc
      unfold xw_S_copy_35
      refine xp_need (b := true) (fun z => by cases z) (fun _ => ⟨fun z => rows85 (fun a _ => ?_), fun o8 z8 => ⟨fun z => rows85 (fun _ b => ?_), fun o9 z9 => ?_⟩⟩)
      · exfalso
        refine h.held hp (fun _ b' => by rw [b'] at a; exact absurd a (by decide)) (fun o t q1 _ _ _ _ _ _ _ _ => by rw [q1] at z; cases z) (fun o k n q1 _ => by rw [q1] at z; cases z)
      · exfalso
        refine h.held hq (fun _ b' => by rw [b'] at b; exact absurd b (by decide)) (fun o t q1 _ _ _ _ _ _ _ _ => by rw [q1] at z; cases z) (fun o k n q1 _ => by rw [q1] at z; cases z)
      · refine xp_row h hp (fun a => m3 (Or.inl a)) (fun a => absurd a cp) (fun o k n a1 a2 => xp_v_sort a2.2.2.1 a2.2.2.2.1 (xp_row h hq (fun a => m3 (Or.inr a)) (fun a => absurd a cq) (fun o' k' n' b1 b2 => xp_v_sort b2.2.2.1 b2.2.2.2.1 ⟨fun ne => ?_, fun eq => ?_⟩)))
        · unfold xw_S_copy_80 xw_S_copy_149
          refine xp_need (b := false) (fun _ z δ1 σ1 hN => xp_refuse 2 (by decide) (by decide) h hN (fun σ2 hr => mc_go hp hq cp cq (fun z => ?_) (fun _ _ _ => ⟨rfl, hr⟩))) (fun z => by cases z)
          exfalso
          have := z a2.2.2.2.2.2.2.1 b2.2.2.2.2.2.2.1
          rw [a2.2.2.2.2.2.2.2.1, b2.2.2.2.2.2.2.2.1] at this
          exact ne this
        · unfold xw_S_copy_80
          refine xp_need (b := true) (fun z => by cases z) (fun _ => rows85 (fun _ _ => ?_))
          rw [a2.2.2.2.2.2.2.2.1, b2.2.2.2.2.2.2.2.1]
          exact eq
