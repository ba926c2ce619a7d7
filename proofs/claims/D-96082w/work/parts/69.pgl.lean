/-! years -/
def nxt (s : Int32) : Int32 := s * 1103515245 + 12345
def d3 (s : Int32) : Int32 := ((s.toUInt32 >>> ((16 : Int32).toUInt32 &&& Int32.toUInt32 31)).toInt32) - ((s.toUInt32 >>> ((16 : Int32).toUInt32 &&& Int32.toUInt32 31)).toInt32) / 3 * 3
theorem d3_of (s : Int32) : ∃ d, d < 3 ∧ d3 s = nI d := by
  have es : s = nI s.toBitVec.toNat := Int32.toBitVec_inj.mp (by show _ = BitVec.ofNat 32 _; simp)
  have hl : s.toBitVec.toNat < 2 ^ 32 := s.toBitVec.isLt
  have e := pk_ushrN (n := s.toBitVec.toNat) hl (16 : Int32) 16 (by decide)
  rw [← es] at e
  have hm : s.toBitVec.toNat / 2 ^ 16 < 2 ^ 31 := by
    have : s.toBitVec.toNat / 2 ^ 16 ≤ s.toBitVec.toNat := Nat.div_le_self _ _
    have h2 : s.toBitVec.toNat / 2 ^ 16 < 2 ^ 16 := Nat.div_lt_of_lt_mul (by omega)
    omega
  unfold d3
  rw [e]
  refine ⟨s.toBitVec.toNat / 2 ^ 16 % 3, Nat.mod_lt _ (by decide), ?_⟩
  exact pk_rem (d := 3) hm (by decide) (by decide)
def mn (v : Int32) : Int32 := if v < 20 then v else 20
def grw (G : Gd) (i : Nat) : Gd := if gK G i = 2 ∨ gK G i = 6 then setV (setF G 3 (nxt (gF G 3))) 4 i (mn (gV G 4 i + d3 (nxt (gF G 3)))) else G
def grK (G : Gd) : Nat → Gd
  | 0 => G
  | k + 1 => grw (grK G k) k
theorem grK_s (G : Gd) (k : Nat) : grK G (k + 1) = grw (grK G k) k := rfl
theorem grw_p (G : Gd) (i : Nat) : gN (grw G i) = gN G ∧ gK (grw G i) = gK G := by
  unfold grw
  by_cases c : gK G i = 2 ∨ gK G i = 6
  · rw [if_pos c]; exact ⟨rfl, rfl⟩
  · rw [if_neg c]; exact ⟨rfl, rfl⟩
theorem grK_p (G : Gd) : ∀ k, gN (grK G k) = gN G ∧ gK (grK G k) = gK G
  | 0 => ⟨rfl, rfl⟩
  | k + 1 => by
    rw [grK_s]
    exact ⟨(grw_p _ k).1.trans (grK_p G k).1, (grw_p _ k).2.trans (grK_p G k).2⟩
theorem mn_20 {a d : Nat} (ha : a ≤ 20) (hd : d < 3) : ∃ b, b ≤ 20 ∧ mn (nI a + nI d) = nI b := by
  rw [nI_add]
  unfold mn
  by_cases c : nI (a + d) < 20
  · rw [if_pos c]
    have := (nI_ltI (b := 20) (by omega) (by decide)).mp c
    exact ⟨a + d, by omega, rfl⟩
  · rw [if_neg c]; exact ⟨20, by decide, rfl⟩
theorem gW.gr {G : Gd} {i : Nat} (h : gW G) (hi : i < gN G) : gW (grw G i) := by
  unfold grw
  by_cases c : gK G i = 2 ∨ gK G i = 6
  · rw [if_pos c]
    obtain ⟨a, ha, ea⟩ := (h.2.2.2.1 i hi).2.2.2.2
    obtain ⟨d, hd, ed⟩ := d3_of (nxt (gF G 3))
    refine gW.hei (G := setF G 3 (nxt (gF G 3))) h ?_
    rw [ea, ed]
    exact mn_20 ha hd
  · rw [if_neg c]; exact h
theorem gW.grk {G : Gd} (h : gW G) : ∀ k, k ≤ gN G → gW (grK G k)
  | 0, _ => h
  | k + 1, hk => by
    rw [grK_s]
    exact (gW.grk h k (by omega)).gr (by rw [(grK_p G k).1]; omega)
def sfG (G : Gd) : Gd := setF (grK G (gN G)) 0 (1 - gF (grK G (gN G)) 0)
def yrM (G : Gd) : Int32 := pc (hsM (sfG G)) - pc (rt (sfG G))
def yrG (G : Gd) : Gd := setF (sfG G) 2 (gF (sfG G) 2 + yrM G)
theorem s01 {v : Int32} (h : v = 0 ∨ v = 1) : 1 - v = 0 ∨ 1 - v = 1 := by rcases h with e | e <;> subst e <;> decide
theorem gW.sf {G : Gd} (h : gW G) : gW (sfG G) := (h.grk (gN G) (Nat.le_refl _)).sum (s01 (h.grk (gN G) (Nat.le_refl _)).2.1)
theorem gW.yr {G : Gd} (h : gW G) : gW (yrG G) := h.sf.fin
theorem yr_N (G : Gd) : gN (yrG G) = gN G := (grK_p G (gN G)).1
section PL
variable {G : Gd} {δ : XSh} {σ : XSt} {σm : MSt} {g : Nat}
theorem xp_v_grows {K : Int32 → Prop} {o i : Nat} (hc : δ.2.2.1 o = 5 + gK G i) (h6 : gK G i ≤ 6) (hK : K (bI (decide (gK G i = 2 ∨ gK G i = 6)))) : xv_T_grows δ σ K o := by
  rcases c7 h6 with e | e | e | e | e | e | e <;> rw [e] at hc hK <;> simpa [xv_T_grows, hc, xw_T_grows, xw_Te_grows, bI] using hK
theorem xp_year {K : Int32 → XSt → Prop} (hW : gW G) (hR : RC G δ σ g) (hK : ∀ σ', RC (yrG G) δ σ' g → Kp g δ σ δ σ' → σ'.2 = σ.2 → K (yrM G) σ') : xw_G_year δ K g σ := by
  have hn := hW.1
  unfold xw_G_year
  refine lpU (fun n (u : XSt) i => xw_G_year_2 δ K g n i u) (fun i u => RC (grK G i) δ u g ∧ Kp g δ σ δ u ∧ u.2 = σ.2) (gN G) σ ⟨hR, Kp.rf, rfl⟩ ?_ ?_
  · rintro n u ⟨u1, u2, u3⟩
    show xw_G_year_2_b δ K g (xw_G_year_2 δ K g n) (nI (gN G)) u
    unfold xw_G_year_2_b xw_G_year_64
    have e0 : u.1 6 g 0 = nI (gN G) := by rw [u1.1, (grK_p G (gN G)).1]
    have fin : ∀ v, v = 1 - gF (grK G (gN G)) 0 → (v = 0 ∨ v = 1) ∧ ∀ σ2, σ2 = tI u 6 g 1 v → xw_G_houses δ σ2 (fun r3 => xw_Jn_bitCount δ σ2 (fun r4 => xw_G_rights δ σ2 (fun r5 => ∀ σ6, σ6 = tI σ2 6 g 4 ((σ2.1 6 g 4) + (r4 - r5)) → (K (r4 - r5) σ6)) g) r3) g := by
      rintro v rfl
      have c2 : RC (sfG G) δ (tI u 6 g 1 (1 - gF (grK G (gN G)) 0)) g := u1.sum
      refine ⟨s01 (hW.grk (gN G) (Nat.le_refl _)).2.1, ?_⟩
      rintro σ2 rfl
      refine xp_houses c2 hW.sf.u (xp_bitCount (sm_bm _ hW.sf.1) (xp_rights hW.sf.u c2 ?_))
      rintro σ6 rfl
      have c6 : RC (yrG G) δ (tI (tI u 6 g 1 (1 - gF (grK G (gN G)) 0)) 6 g 4 ((tI u 6 g 1 (1 - gF (grK G (gN G)) 0)).1 6 g 4 + (pc (hsM (sfG G)) - pc (rt (sfG G))))) g := by
        have e4 : (tI u 6 g 1 (1 - gF (grK G (gN G)) 0)).1 6 g 4 = gF (sfG G) 2 := c2.2.2.2.2.1
        rw [e4]
        exact c2.fin
      exact hK _ c6 ((u2.tr (Kp.tI ig6)).tr (Kp.tI ig6)) u3
    have e1 : u.1 6 g 1 = gF (grK G (gN G)) 0 := u1.2.1
    rw [e0, e1]
    refine br_t (nI_le (Nat.le_refl _) (by omega)) ?_
    rcases (hW.grk (gN G) (Nat.le_refl _)).2.1 with e | e
    · exact ⟨fun z => absurd e z, fun _ => fin 1 (by rw [e]; decide)⟩
    · exact ⟨fun _ => fin 0 (by rw [e]; decide), fun z => by rw [e] at z; exact absurd z (by decide)⟩
  · rintro n i u hi ⟨u1, u2, u3⟩ L
    have i8 : i < 8 := by omega
    show xw_G_year_2_b δ K g (xw_G_year_2 δ K g n) (nI i) u
    unfold xw_G_year_2_b
    have hi' : i < gN (grK G i) := by rw [(grK_p G i).1]; exact hi
    have e0 : u.1 6 g 0 = nI (gN G) := by rw [u1.1, (grK_p G i).1]
    obtain ⟨e9, -, o, e8, -, ec, -⟩ := u1.2.2.2.2.2.2 i hi'
    have h6 : gK (grK G i) i ≤ 6 := by rw [(grK_p G i).2]; exact (hW.u.2.2.1 i hi).1
    rw [e0, pcl i8]
    refine br_f (nI_ge hi (by omega)) ⟨pin i8, o, e8, xp_v_grows ec h6 (bI_if (fun c => L u ⟨?_, u2, u3⟩) (fun c => ⟨pin i8, ?_⟩))⟩
    · rw [grK_s, grw, if_neg (by simpa using c)]; exact u1
    · have c : gK (grK G i) i = 2 ∨ gK (grK G i) i = 6 := by simpa using c
      unfold xw_G_draw
      intro s1 es
      have v5 : s1.1 6 g 5 = nxt (gF (grK G i) 3) := by rw [es, tI_s, pk_us, u1.2.2.2.2.2.1]; rfl
      rw [v5, e9]
      refine ⟨by decide, ?_⟩
      rintro r10 rfl
      refine ⟨pin i8, ?_⟩
      rintro σ12 rfl
      refine L _ ⟨?_, ?_, ?_⟩
      · rw [grK_s, grw, if_pos c]
        have r1 : RC (setF (grK G i) 3 (nxt (gF (grK G i) 3))) δ s1 g := by
          rw [es, u1.2.2.2.2.2.1]
          exact u1.see
        exact r1.hei (v := mn (gV (grK G i) 4 i + d3 (nxt (gF (grK G i) 3))))
      · rw [es]; exact (u2.tr (Kp.tI ig6)).tr (Kp.tI ig9)
      · rw [es]; exact u3
def yrs (G : Gd) : Nat → Gd
  | 0 => G
  | k + 1 => yrG (yrs G k)
def yrS (G : Gd) (k : Nat) : Int32 := su (fun k => yrM (yrs G k)) k
theorem yrs_W (h : gW G) : ∀ k, gW (yrs G k)
  | 0 => h
  | k + 1 => (yrs_W h k).yr
theorem yrs_N : ∀ k, gN (yrs G k) = gN G
  | 0 => rfl
  | k + 1 => (yr_N (yrs G k)).trans (yrs_N k)
theorem gr_f2 (G : Gd) : ∀ k, gF (grK G k) 2 = gF G 2
  | 0 => rfl
  | k + 1 => by
    rw [grK_s]
    unfold grw
    by_cases c : gK (grK G k) k = 2 ∨ gK (grK G k) k = 6
    · rw [if_pos c]
      show (if 2 = 3 then nxt (gF (grK G k) 3) else gF (grK G k) 2) = _
      rw [if_neg (by decide)]
      exact gr_f2 G k
    · rw [if_neg c]; exact gr_f2 G k
theorem yrs_f : ∀ k, gF (yrs G k) 2 = gF G 2 + yrS G k
  | 0 => by show gF G 2 = gF G 2 + 0; rw [Int32.add_zero]
  | k + 1 => by
    show gF (yrG (yrs G k)) 2 = _
    have e1 : gF (yrG (yrs G k)) 2 = gF (sfG (yrs G k)) 2 + yrM (yrs G k) := rfl
    have e2 : gF (sfG (yrs G k)) 2 = gF (grK (yrs G k) (gN (yrs G k))) 2 := rfl
    rw [e1, e2, gr_f2, yrs_f k, Int32.add_assoc]
    rfl
theorem mp_yr {K : Int32 → MSt → Prop} {L25 : Int32 → Int32 → Int32 → MSt → Prop} {x1 x2 x3 : Int32} (hW : gW G) (hR : RM G σm) (hK : ∀ u, RM (yrG G) u → Mg σm u → L25 x1 x2 (x3 + 1) u) : ∃ n, mw_years_33 K L25 n x1 x2 x3 0 σm := by
  have hn := hW.1
  refine lpU (fun n (u : MSt) i => mw_years_33 K L25 n x1 x2 x3 i u) (fun i u => RM (grK G i) u ∧ Mg σm u) (gN G) σm ⟨hR, Mg.rf⟩ ?_ ?_
  · rintro n u ⟨u1, u2⟩
    show mw_years_33_b K L25 (mw_years_33 K L25 n) x1 x2 x3 (nI (gN G)) u
    unfold mw_years_33_b
    have e0 : u.1 0 = nI (gN G) := by rw [u1.1, (grK_p G (gN G)).1]
    rw [e0, u1.2.1]
    refine br_t (nI_le (Nat.le_refl _) (by omega)) ?_
    intro s2 e2
    have r2 : RM (sfG G) s2 := by rw [e2]; exact u1.fld (a := 0) (by decide)
    have g2 : Mg σm s2 := by rw [e2]; exact u2.tr (Mg.sF (by decide))
    clear e2
    refine mp_houses hW.sf.u r2 (mp_many (sm_bm _ hW.sf.1) (mp_allRight hW.sf.u r2 (mp_many (sm_bm _ hW.sf.1) ?_)))
    rw [r2.2.2.2.1]
    rintro σ7 rfl
    exact hK _ (r2.fld (a := 2) (by decide)) (g2.tr (Mg.sF (by decide)))
  · rintro n i u hi ⟨u1, u2⟩ L
    have i8 : i < 8 := by omega
    show mw_years_33_b K L25 (mw_years_33 K L25 n) x1 x2 x3 (nI i) u
    unfold mw_years_33_b mw_years_68 mw_draws3
    have hi' : i < gN (grK G i) := by rw [(grK_p G i).1]; exact hi
    have e0 : u.1 0 = nI (gN G) := by rw [u1.1, (grK_p G i).1]
    have h6 : gK (grK G i) i ≤ 6 := by rw [(grK_p G i).2]; exact (hW.u.2.2.1 i hi).1
    obtain ⟨k7, -, -, k10, -⟩ := u1.2.2.2.2.2 i hi'
    have grow : (gK (grK G i) i = 2 ∨ gK (grK G i) i = 6) → vp_in (nI i) (lenM 10) ∧ (∀ σ1, σ1 = sF u 4 (((u.1 4) * 1103515245) + 12345) → (vp_in (nI i) (lenM 10) ∧ (∀ σ5, σ5 = sI σ1 10 i (gV (grK G i) 4 i + ((((σ1.1 4).toUInt32 >>> ((16 : Int32).toUInt32 &&& Int32.toUInt32 31)).toInt32) - (((σ1.1 4).toUInt32 >>> ((16 : Int32).toUInt32 &&& Int32.toUInt32 31)).toInt32) / 3 * 3)) → (vp_in (nI i) (lenM 10) ∧ ((((σ5.2.1 10 i) ≤ 20) → (mw_years_33 K L25 n x1 x2 x3 (nI i + 1) σ5)) ∧ ((¬ ((σ5.2.1 10 i) ≤ 20)) → (vp_in (nI i) (lenM 10) ∧ (∀ σ9, σ9 = sI σ5 10 i 20 → (mw_years_33 K L25 n x1 x2 x3 (nI i + 1) σ9))))))))) := by
      intro c
      refine ⟨pin i8, ?_⟩
      intro s1 es
      have v4 : s1.1 4 = nxt (gF (grK G i) 3) := by rw [es, sF_s, u1.2.2.2.2.1]; rfl
      have r1 : RM (setF (grK G i) 3 (nxt (gF (grK G i) 3))) s1 := by
        rw [es, u1.2.2.2.2.1]
        exact u1.fld (a := 3) (by decide)
      have g1 : Mg σm s1 := by rw [es]; exact u2.tr (Mg.sF (by decide))
      refine ⟨pin i8, ?_⟩
      intro s5 e5
      rw [v4] at e5
      have v10 : s5.2.1 10 i = gV (grK G i) 4 i + d3 (nxt (gF (grK G i) 3)) := by rw [e5, sI_s, pk_us]; rfl
      rw [v10]
      have r5 : RM (setV (setF (grK G i) 3 (nxt (gF (grK G i) 3))) 4 i (gV (grK G i) 4 i + d3 (nxt (gF (grK G i) 3)))) s5 := by rw [e5]; exact r1.hei
      have g5 : Mg σm s5 := by rw [e5]; exact g1.tr (Mg.sI (by decide))
      obtain ⟨a, ha, ea⟩ := ((hW.grk i (by omega)).2.2.2.1 i hi').2.2.2.2
      obtain ⟨d, hd, ed⟩ := d3_of (nxt (gF (grK G i) 3))
      have evn : gV (grK G i) 4 i + d3 (nxt (gF (grK G i) 3)) = nI (a + d) := by rw [ea, ed, nI_add]
      have em : ∀ v, v = mn (gV (grK G i) 4 i + d3 (nxt (gF (grK G i) 3))) → grK G (i + 1) = setV (setF (grK G i) 3 (nxt (gF (grK G i) 3))) 4 i v := by
        rintro v rfl
        rw [grK_s, grw, if_pos c]
      refine ⟨pin i8, fun z => L s5 ⟨?_, g5⟩, fun z => ⟨pin i8, ?_⟩⟩
      · rw [em (gV (grK G i) 4 i + d3 (nxt (gF (grK G i) 3))) ?_]
        · exact r5
        · rw [evn] at z ⊢
          unfold mn
          have zl := (nI_leI (b := 20) (by omega) (by decide)).mp z
          by_cases q : nI (a + d) < 20
          · rw [if_pos q]
          · rw [if_neg q]
            have : ¬ a + d < 20 := fun y => q (nI_lt (b := 20) y (by decide))
            have : a + d = 20 := by omega
            rw [this]; rfl
      · rintro σ9 rfl
        refine L _ ⟨?_, g5.tr (Mg.sI (by decide))⟩
        rw [em 20 ?_]
        · have r9 : RM (setV (setV (setF (grK G i) 3 (nxt (gF (grK G i) 3))) 4 i (gV (grK G i) 4 i + d3 (nxt (gF (grK G i) 3)))) 4 i 20) (sI s5 10 i 20) := r5.hei
          have es2 : setV (setV (setF (grK G i) 3 (nxt (gF (grK G i) 3))) 4 i (gV (grK G i) 4 i + d3 (nxt (gF (grK G i) 3)))) 4 i 20 = setV (setF (grK G i) 3 (nxt (gF (grK G i) 3))) 4 i 20 := by
            unfold setV
            congr 4
            funext b t
            by_cases q : b = 4 ∧ t = i
            · rw [if_pos q, if_pos q]
            · rw [if_neg q, if_neg q]
              exact if_neg q
          rw [es2] at r9
          exact r9
        · unfold mn
          rw [if_neg]
          exact fun y => z (Int32.le_of_lt y)
    rw [e0, pcl i8, k7, k10, kq h6 (show 2 ≤ 6 by decide) (show (2 : Int32) = nI 2 from rfl), kq h6 (show 6 ≤ 6 by decide) (show (6 : Int32) = nI 6 from rfl)]
    refine br_f (nI_ge hi (by omega)) ⟨pin i8, fun c => grow (Or.inl c), fun c => ⟨pin i8, fun d => grow (Or.inr d), fun d => L u ⟨?_, u2⟩⟩⟩
    rw [grK_s, grw, if_neg (fun z => z.elim c d)]; exact u1
end PL
theorem mp_years {G : Gd} {σm : MSt} {K : Int32 → MSt → Prop} {n : Nat} (hW : gW G) (hR : RM G σm) (h1 : 1 ≤ n) (h30 : n ≤ 30) (hK : ∀ u, RM (yrs G n) u → Mg σm u → K (yrS G n) u) : mw_years K (nI n) σm := by
  unfold mw_years
  have l1 : ¬ nI n < 1 := nI_nlt (b := 1) h1 (by omega)
  have l30 : nI n ≤ 30 := nI_le (b := 30) h30 (by decide)
  refine br_f l1 (br_t l30 ?_)
  rw [hR.2.2.2.1]
  refine lpU (fun m (u : MSt) i => mw_years_25 K m (nI n) (gF G 2) i u) (fun i u => RM (yrs G i) u ∧ Mg σm u) n σm ⟨hR, Mg.rf⟩ ?_ ?_
  · rintro m u ⟨u1, u2⟩
    show mw_years_25_b K (mw_years_25 K m) (nI n) (gF G 2) (nI n) u
    unfold mw_years_25_b
    refine br_t (nI_le (Nat.le_refl _) (by omega)) ?_
    have e : u.1 3 - gF G 2 = yrS G n := by rw [u1.2.2.2.1, yrs_f, Int32.add_comm, Int32.add_sub_cancel]
    rw [e]
    exact hK u u1 u2
  · rintro m i u hi ⟨u1, u2⟩ L
    show mw_years_25_b K (mw_years_25 K m) (nI n) (gF G 2) (nI i) u
    unfold mw_years_25_b
    exact br_f (nI_ge hi (by omega)) (mp_yr (yrs_W hW i) u1 (fun v v1 v2 => L v ⟨v1, u2.tr v2⟩))
theorem pl_years : Pl_years RL := by
  intro δ σ σm x h x1
  obtain ⟨G, w, tr, sh, h⟩ := h
  unfold xw_S_years
  refine xp_in (y := 1) (z := 30) (fun c => xp_need (b := false) (fun _ q δ1 σ1 hN => xp_refuse 6 (by decide) (by decide) h hN (fun σ2 hr => ?_)) (fun z => by cases z)) (fun c d => xp_need (b := true) (fun z => by cases z) (fun _ => ?_))
  · unfold mw_years mw_years_11
    refine ⟨fun _ => mp_no 6 (by decide) (by decide) ⟨rfl, hr⟩, fun a => ⟨fun b => ?_, fun _ => mp_no 6 (by decide) (by decide) ⟨rfl, hr⟩⟩⟩
    rcases c with c | c
    · exact absurd c a
    · exact absurd b (Int32.not_le.mpr c)
  · obtain ⟨n, hn, en⟩ := nI_of2 (n := 30) (M := 30) (by decide) (fun z => c (lt10 z)) (Int32.not_lt.mp d)
    subst en
    have n1 : 1 ≤ n := by
      rcases Nat.eq_zero_or_pos n with z | z
      · subst z; exact absurd (by decide) c
      · exact z
    have fin : ∀ σ', RC (yrs G n) δ σ' w → Kp w δ σ δ σ' → σ'.2 = σ.2 → mw_years (fun r2 u => yrS G n = r2 ∧ RL δ σ' u x) (nI n) σm := fun σ' c1 k1 e2 => mp_years h.1 h.rm n1 hn (fun u u1 u2 => ⟨rfl, (h.upd (yrs_W h.1 n) u1 c1 k1 (Nat.le_of_eq (yrs_N n).symm) (fun t _ => by rw [e2]) u2).rl⟩)
    refine lpU (fun m (s : Int32 × XSt) i => xw_S_years_18 (fun r δ1 σ1 => mw_years (fun r2 u => r = r2 ∧ RL δ1 σ1 u x) (nI n) σm) x m (nI n) s.1 i δ s.2) (fun i s => s.1 = yrS G i ∧ RC (yrs G i) δ s.2 w ∧ Kp w δ σ δ s.2 ∧ s.2.2 = σ.2) n (0, σ) ⟨rfl, h.rc, Kp.rf, rfl⟩ ?_ ?_
    · rintro m ⟨v, u⟩ ⟨hv, u1, u2, u3⟩
      have hv : v = yrS G n := hv
      subst hv
      show xw_S_years_18_b (fun r δ1 σ1 => mw_years (fun r2 u => r = r2 ∧ RL δ1 σ1 u x) (nI n) σm) x (xw_S_years_18 (fun r δ1 σ1 => mw_years (fun r2 u => r = r2 ∧ RL δ1 σ1 u x) (nI n) σm) x m) (nI n) _ (nI n) δ u
      unfold xw_S_years_18_b
      exact br_t (nI_le (Nat.le_refl _) (by omega)) (fin u u1 u2 u3)
    · rintro m i ⟨v, u⟩ hi ⟨hv, u1, u2, u3⟩ L
      have hv : v = yrS G i := hv
      subst hv
      show xw_S_years_18_b (fun r δ1 σ1 => mw_years (fun r2 u => r = r2 ∧ RL δ1 σ1 u x) (nI n) σm) x (xw_S_years_18 (fun r δ1 σ1 => mw_years (fun r2 u => r = r2 ∧ RL δ1 σ1 u x) (nI n) σm) x m) (nI n) _ (nI i) δ u
      unfold xw_S_years_18_b
      have u3 : u.2 = σ.2 := u3
      exact br_f (nI_ge hi (by omega)) ⟨w, by rw [u3]; exact h.wE, xp_year (yrs_W h.1 i) u1 (fun σ' c1 k1 e2 => L (_, σ') ⟨rfl, c1, u2.tr k1, e2.trans u3⟩)⟩
