/-! list -/
def mkN (n : Nat) : Int32 := bm (fun _ => true) n
theorem mkN_e : ∀ n, n < 9 → ((1 : Int32) <<< (nI n &&& 31)) - 1 = mkN n := by decide +kernel
def df (G : Gd) (r : Nat → Int32) (i : Nat) : Int32 := (r i ^^^ into G i) &&& mkN (gN G)
def dz' (G : Gd) (r : Nat → Int32) (i : Nat) : Bool := !decide (df G r i = 0)
def ft (G : Gd) (r : Nat → Int32) : Bool := decide (su (fun t => pc (df G r t)) (gN G) = 0)
theorem df_sm {G : Gd} (hn : gN G ≤ 8) (r : Nat → Int32) (i : Nat) : sm (df G r i) := sm_and' _ (sm_bm _ hn)
theorem df_0 {G : Gd} (hn : gN G ≤ 8) {r : Nat → Int32} {i : Nat} : (r i &&& mkN (gN G) = into G i) ↔ df G r i = 0 := by
  have b0 : ∀ j, j < 32 → bt 0 j = false := by decide
  constructor
  · intro h
    refine b_ext (fun j hj => ?_)
    have h := congrArg (fun z => bt z j) h
    simp only [b_and] at h
    unfold df
    rw [b_and, b_xor, b0 j hj, ← h]
    cases bt (r i) j <;> cases bt (mkN (gN G)) j <;> rfl
  · intro h
    refine b_ext (fun j hj => ?_)
    have h := congrArg (fun z => bt z j) h
    simp only [df, b_and, b_xor, b0 j hj] at h
    rw [b_and]
    unfold mkN at h ⊢
    rw [bm_bt _ (by omega) hj] at h ⊢
    unfold into at h ⊢
    rw [bm_bt _ (by omega) hj] at h ⊢
    revert h
    cases bt (r i) j <;> cases decide (j < gN G) <;> cases inB G i j <;> decide
theorem pc_z256 : ∀ k, k < 256 → (pc (nI k) ≤ 0 ↔ k = 0) := by decide +kernel
theorem pc_z {x : Int32} (h : sm x) : pc x ≤ 0 ↔ x = 0 := by
  obtain ⟨k, hk, e⟩ := sm_nI h
  rw [e, pc_z256 k hk]
  constructor
  · intro z; rw [z]; rfl
  · intro z; exact (nI_eq (a := k) (b := 0) (by omega) (by decide)).mp z
theorem fst_s {p : Nat → Bool} {i : Nat} (hi : i < 8) : fst p (i + 1) 0 = if fst p i 0 = -1 ∧ p i = true then nI i else fst p i 0 := by
  rcases fst_ge (p := p) (m := i) (i := 0) with e | ⟨t, -, t2, t3, t4, e⟩
  · have hz := fst_m1 (by omega) e
    rw [e]
    by_cases c : p i = true
    · rw [if_pos ⟨rfl, c⟩]
      exact fst_some c (by omega) (by omega) (fun k _ hk => hz k hk)
    · rw [if_neg (fun z => c z.2)]
      refine fst_none (fun k _ hk => ?_)
      by_cases q : k = i
      · rw [q]; exact Bool.eq_false_iff.mpr c
      · exact hz k (by omega)
  · rw [e, if_neg (fun z => nI_m1 (by omega) z.1)]
    exact fst_some t3 (by omega) (by omega) (fun k hk hk' => t4 k hk hk')
theorem su_nn {f : Nat → Int32} : ∀ {n : Nat}, (∀ i, i < n → ∃ c, c ≤ 8 ∧ f i = nI c) → ∃ c, c ≤ 8 * n ∧ su f n = nI c ∧ (c = 0 → ∀ i, i < n → f i = 0)
  | 0, _ => ⟨0, by omega, rfl, fun _ i hi => absurd hi (by omega)⟩
  | n + 1, h => by
    obtain ⟨c, hc, e, z⟩ := su_nn (f := f) (n := n) (fun i hi => h i (by omega))
    obtain ⟨d, hd, e'⟩ := h n (by omega)
    refine ⟨c + d, by omega, by rw [su_s, e, e', nI_add], fun q i hi => ?_⟩
    by_cases k : i = n
    · rw [k, e', (by omega : d = 0)]; rfl
    · exact z (by omega) i (by omega)
theorem ft_t {G : Gd} (hn : gN G ≤ 8) {r : Nat → Int32} (h : ∀ i, i < gN G → df G r i = 0) : ft G r = true := by
  unfold ft
  exact decide_eq_true (su_0 (fun i hi => by rw [h i hi]; exact pc_0))
theorem ft_f {G : Gd} (hn : gN G ≤ 8) {r : Nat → Int32} {i : Nat} (hi : i < gN G) (h : ¬ df G r i = 0) : ft G r = false := by
  unfold ft
  refine decide_eq_false (fun z => h ?_)
  obtain ⟨c, hc, e, q⟩ := su_nn (f := fun t => pc (df G r t)) (n := gN G) (fun i _ => pc_pos)
  rw [e] at z
  have := q ((nI_eq (a := c) (b := 0) (by omega) (by decide)).mp z) i hi
  exact (pc_z (df_sm hn r i)).mp (by rw [this]; exact Int32.le_refl _)
section Lst
variable {G : Gd} {tr x w : Nat} {sh : Nat → Nat} {δ : XSh} {σ : XSt} {σm : MSt} {o k n s i y : Nat} {r : Nat → Int32}
theorem xp_asInt {K : Int32 → Prop} (hr : HRr δ σ σm s o k n) (hi : i < n) (hK : K (σm.2.2 18 (160 * s + i)).toInt32) : xv_R_asInt δ σ K o (nI i) := by
  obtain ⟨d1, d2, d3, d4, d5, d6, d7, d8, d9, d10⟩ := hr
  have e1 := (d10 i hi).1
  have v : vp_in (nI i) (δ.2.2.2 o) := by rw [d5]; exact vp_in_nI hi (by omega)
  have cl : (nI i).toNatClampNeg = i := nI_clamp (by omega)
  unfold xv_R_asInt xw_Ro_asInt xv_R_get
  rw [d3]
  rcases c4 d4 with e | e | e | e <;> subst e
  · refine ⟨fun _ => ⟨v, ?_⟩, fun z => absurd z (by decide), fun z => absurd z (by decide), fun z => absurd z (by decide)⟩
    rw [cl]
    unfold rv at e1
    rw [if_neg (by decide)] at e1
    rw [e1]
    exact hK
  · refine ⟨fun z => absurd z (by decide), fun _ => ⟨v, ?_⟩, fun z => absurd z (by decide), fun z => absurd z (by decide)⟩
    rw [cl]
    unfold rv at e1
    rw [if_neg (by decide)] at e1
    rw [e1]
    exact hK
  · refine ⟨fun z => absurd z (by decide), fun z => absurd z (by decide), fun _ => ⟨v, ?_⟩, fun z => absurd z (by decide)⟩
    rw [cl]
    unfold rv at e1
    rw [if_neg (by decide)] at e1
    rw [e1]
    exact hK
  · refine ⟨fun z => absurd z (by decide), fun z => absurd z (by decide), fun z => absurd z (by decide), fun _ => ⟨v, ?_⟩⟩
    rw [cl]
    unfold rv at e1
    rw [if_pos rfl] at e1
    rw [e1]
    exact hK
theorem xp_length {K : Int32 → Prop} (hr : HRr δ σ σm s o k n) (hK : K (nI n)) : xv_R_length δ σ K o := by
  obtain ⟨d1, d2, d3, d4, d5, d6, d7, d8, d9, d10⟩ := hr
  rw [← d5] at hK
  exact ⟨fun _ => hK, fun _ => hK, fun _ => hK, fun _ => hK⟩
theorem xp_list89 {K : Int32 → XSh → XSt → Prop} {x2 : Int32} (hw : σ.2.2 0 x 4 = some w) (hU : gU G) (hR : RC G δ σ w) (hy : ∀ i, i < gN G → ∀ K : Int32 → Prop, K (r i) → xv_R_asInt δ σ K y (nI i)) (hK : K (if x2 = 0 then fst (dz' G r) (gN G) 0 else su (fun t => pc (df G r t)) (gN G)) δ σ) : ∃ n, xw_S_list_89 K x n x2 y (-1) 0 0 δ σ := by
  have hn := hU.1
  refine lpU (fun n (z : Int32 × Int32) i => xw_S_list_89 K x n x2 y z.1 z.2 i δ σ) (fun i z => z = (fst (dz' G r) i 0, su (fun t => pc (df G r t)) i)) (gN G) (-1, 0) rfl ?_ ?_
  · rintro n _ rfl
    refine ⟨w, hw, ?_⟩
    rw [hR.1]
    refine br_t (nI_le (Nat.le_refl _) (by omega)) ⟨fun c => ?_, fun c => ?_⟩
    · rw [if_neg c] at hK; exact hK
    · rw [if_pos c] at hK; exact hK
  · rintro n i _ hi rfl nx
    have i8 : i < 8 := by omega
    refine ⟨w, hw, ?_⟩
    rw [hR.1]
    refine br_f (nI_ge hi (by omega)) (hy i hi _ (xp_into hU hR hi ?_))
    rintro r6 rfl
    rw [mkN_e _ (by omega)]
    show (¬ fst (dz' G r) i 0 = -1 → xw_S_list_147 K x _ x2 y _ _ (nI i) (df G r i) δ σ) ∧ (fst (dz' G r) i 0 = -1 → (df G r i = 0 → xw_S_list_147 K x _ x2 y _ _ (nI i) (df G r i) δ σ) ∧ (¬ df G r i = 0 → xw_S_list_149 K x _ x2 y _ (nI i) (df G r i) (nI i) δ σ))
    unfold xw_S_list_147 xw_S_list_149
    refine ⟨fun c => xp_bitCount (df_sm hn r i) (nx (fst (dz' G r) i 0, su (fun t => pc (df G r t)) i + pc (df G r i)) ?_), fun c => ⟨fun d => xp_bitCount (df_sm hn r i) (nx (fst (dz' G r) i 0, su (fun t => pc (df G r t)) i + pc (df G r i)) ?_), fun d => xp_bitCount (df_sm hn r i) (nx (nI i, su (fun t => pc (df G r t)) i + pc (df G r i)) ?_)⟩⟩
    · rw [fst_s i8, if_neg (fun z => c z.1)]; rfl
    · rw [fst_s i8, if_neg (fun z => by have := z.2; unfold dz' at this; rw [decide_eq_true d] at this; cases this)]; rfl
    · rw [fst_s i8, if_pos ⟨c, by unfold dz'; rw [decide_eq_false d]; rfl⟩]; rfl
theorem xp_isAsTold {K : Int32 → Prop} {g : Nat} (hU : gU G) (hR : RC G δ σ g) (hy : ∀ i, i < gN G → ∀ K : Int32 → Prop, K (r i) → xv_R_asInt δ σ K y (nI i)) (hK : K (bI (ft G r))) : xw_S_isAsTold δ σ K y g := by
  have hn := hU.1
  refine lpU (fun n (z : Unit) i => xw_S_isAsTold_2 δ σ K y g n i) (fun i z => ∀ t, t < i → df G r t = 0) (gN G) () (fun t ht => absurd ht (by omega)) ?_ ?_
  · intro n z hz
    show xw_S_isAsTold_2_b δ σ K y g _ _
    unfold xw_S_isAsTold_2_b
    rw [hR.1]
    refine br_t (nI_le (Nat.le_refl _) (by omega)) ?_
    rw [ft_t hn hz] at hK
    exact hK
  · intro n i z hi hz nx
    show xw_S_isAsTold_2_b δ σ K y g _ _
    unfold xw_S_isAsTold_2_b
    rw [hR.1]
    refine br_f (nI_ge hi (by omega)) (hy i hi _ (xp_into hU hR hi ?_))
    rw [mkN_e _ (by omega)]
    refine ⟨fun c => nx () (fun t ht => ?_), fun c => ?_⟩
    · by_cases q : t = i
      · rw [q]; exact (df_0 hn).mp c
      · exact hz t (by omega)
    · rw [ft_f hn hi (fun z => c ((df_0 hn).mpr z))] at hK
      exact hK
theorem mp_lists {K : MSt → Prop} (hU : gU G) (hR : RM G σm) (hs : s < 8) (hK : ∀ u, Ms σm u → u.1 33 = fst (dz' G (fun i => (σm.2.2 18 (160 * s + i)).toInt32)) (gN G) 0 → u.1 34 = su (fun t => pc (df G (fun i => (σm.2.2 18 (160 * s + i)).toInt32) t)) (gN G) → K u) : mw_lists K (nI s) σm := by
  have hn := hU.1
  obtain ⟨r, er⟩ : ∃ r : Nat → Int32, r = fun i => (σm.2.2 18 (160 * s + i)).toInt32 := ⟨_, rfl⟩
  rw [← er] at hK
  rintro σ1 e1 σ2 e2
  have m2 : Ms σm σ2 := by rw [e2, e1]; exact (Ms.sF (by decide)).tr (Ms.sF (by decide))
  refine lpU (fun n (u : MSt) i => mw_lists_12 K n (nI s) i u) (fun i u => Ms σm u ∧ u.1 33 = fst (dz' G r) i 0 ∧ u.1 34 = su (fun t => pc (df G r t)) i) (gN G) σ2 ⟨m2, ?_, ?_⟩ ?_ ?_
  · rw [e2, e1, sF_n _ _ (by decide), sF_s]; rfl
  · rw [e2, sF_s]; rfl
  · rintro n u ⟨m, u1, u2⟩
    have hR' := hR.ms m
    show mw_lists_12_b K _ (nI s) (nI (gN G)) u
    unfold mw_lists_12_b
    rw [hR'.1]
    exact br_t (nI_le (Nat.le_refl _) (by omega)) (hK u m u1 u2)
  · rintro n i u hi ⟨m, u1, u2⟩ nx
    have hR' := hR.ms m
    have i8 : i < 8 := by omega
    show mw_lists_12_b K _ (nI s) (nI i) u
    unfold mw_lists_12_b
    rw [hR'.1]
    obtain ⟨i1, i2, i3⟩ := ix160 (n := 160) hs (by omega : i < 160) (by omega)
    refine br_f (nI_ge hi (by omega)) ?_
    unfold mw_intAt
    rw [i1, i3, m.2.2]
    refine ⟨i2, ?_⟩
    have main : mw_lists_44 K (mw_lists_12 K n) (nI s) (nI i) (into G i) (r i) u := by
      unfold mw_lists_44
      rw [hR'.1, mkN_e _ (by omega)]
      show mw_many u _ (df G r i)
      refine mp_many (df_sm hn r i) ?_
      unfold mw_lists_75
      refine ⟨fun c => ?_, fun c => ⟨fun d => ?_, fun d => ?_⟩⟩
      · rintro v rfl
        refine nx _ ⟨m.tr (Ms.sF (by decide)), ?_, ?_⟩
        · have d := (pc_z (df_sm hn r i)).mp c
          rw [sF_n _ _ (by decide), u1, fst_s i8, if_neg (fun z => by have := z.2; unfold dz' at this; rw [decide_eq_true d] at this; cases this)]
        · rw [sF_s, u2]; rfl
      · rintro v rfl
        refine nx _ ⟨m.tr (Ms.sF (by decide)), ?_, ?_⟩
        · rw [sF_n _ _ (by decide), u1, fst_s i8, if_neg (fun z => d (u1.trans z.1))]
        · rw [sF_s, u2]; rfl
      · rintro v rfl z rfl
        refine nx _ ⟨(m.tr (Ms.sF (by decide))).tr (Ms.sF (by decide)), ?_, ?_⟩
        · rw [sF_n _ _ (by decide), sF_s, fst_s i8, if_pos ⟨u1.symm.trans d, by unfold dz'; rw [decide_eq_false (fun z => c ((pc_z (df_sm hn r i)).mpr z))]; rfl⟩]
        · rw [sF_s, sF_n _ _ (by decide), u2]; rfl
    have er' : r i = (σm.2.2 18 (160 * s + i)).toInt32 := by rw [er]
    rw [← er']
    refine mp_isHouse hR' hn hi (hU.2.2.1 i hi).1 (bI_if (fun q => ?_) (fun q => mp_seesInto hU hR' hi q main))
    rw [into_0 q] at main
    exact main
theorem xp_fitsIn {K : Int32 → XSt → Prop} {v : Int32} (h : RQ G w tr sh δ σ σm x) (hr : HRr δ σ σm s o k n) (hn : gN G ≤ n) (hv : v = 0 ∨ v = 1) (hK : ∀ σ', RQ G w tr sh δ σ' σm x → HRr δ σ' σm s o k n → K (bI (ft (setF G 0 v) (fun i => (σm.2.2 18 (160 * s + i)).toInt32))) σ') : xw_S_fitsIn δ K x o v σ := by
  refine ⟨tr, h.tE, w, h.wE, h.take (fun σ4 c4 k4 => ⟨hv, ?_⟩)⟩
  rintro σ6 rfl
  have k6 : Kp tr δ σ δ (tI σ4 6 tr 1 v) := k4.tr (Kp.tI ig6)
  have h6 := h.kp k6
  have r6 := hr.kp k6
  exact ⟨tr, h6.tE, xp_isAsTold (G := setF G 0 v) (h.1.sum hv).u c4.sum (fun i hi K hK => xp_asInt r6 (Nat.lt_of_lt_of_le hi hn) hK) ⟨bI_01 _, hK _ h6 r6⟩⟩
theorem mp_list2 {K : Int32 → MSt → Prop} (hW : gW G) (hR : RM G σm) (hs : s < 8) (hK : ∀ u, Ms σm u → K ((bI (ft (setF G 0 1) (fun i => (σm.2.2 18 (160 * s + i)).toInt32))) + (if ft (setF G 0 0) (fun i => (σm.2.2 18 (160 * s + i)).toInt32) = true then 2 else 0)) u) : mw_list_35 K (nI s) 2 0 σm := by
  refine ⟨fun _ => ⟨fun z => absurd rfl z, fun _ => ?_⟩, fun z => absurd rfl z⟩
  rintro σ5 rfl
  refine ⟨3, ?_⟩
  have r5 : RM (setF G 0 0) (sF σm 1 0) := hR.fld (a := 0) (Or.inl rfl)
  have e5 : (sF σm 1 0).1 1 = 0 := by rw [sF_s]
  show mw_list_64_b K _ (nI s) (σm.1 1) 0 (sF σm 1 0)
  unfold mw_list_64_b
  rw [e5]
  refine br_f (by decide) (mp_lists (hW.sum (Or.inl rfl)).u r5 hs (fun u m u1 u2 => ?_))
  have two : ∀ c0 : Int32, c0 = (if ft (setF G 0 0) (fun i => (σm.2.2 18 (160 * s + i)).toInt32) = true then 2 else 0) → mw_list_102 K (mw_list_64 K 2) (nI s) (σm.1 1) c0 u := by
    rintro c0 ec σ1 rfl
    have ru : RM (setF G 0 0) u := r5.ms m
    have e1 : u.1 1 = 0 := by rw [m.1 1 (by decide)]; exact e5
    have rv1 : RM (setF (setF G 0 0) 0 1) (sF u 1 1) := ru.fld (a := 0) (Or.inl rfl)
    have eG : setF (setF G 0 0) 0 1 = setF G 0 1 := by
      unfold setF
      simp only [Prod.mk.injEq, and_true, true_and]
      funext k
      by_cases q : k = 0 <;> simp [q]
    rw [eG] at rv1
    show mw_list_64_b K _ (nI s) (σm.1 1) c0 (sF u 1 (u.1 1 + 1))
    rw [e1]
    have e11 : (sF u 1 (0 + 1)).1 1 = 1 := by rw [sF_s]; rfl
    unfold mw_list_64_b
    rw [e11]
    have e18 : (sF u 1 (0 + 1)).2.2 18 = σm.2.2 18 := m.2.2
    refine br_f (by decide) (mp_lists (G := setF G 0 1) (hW.sum (Or.inr rfl)).u rv1 hs (fun v mv v1 v2 => ?_))
    have m18 : (fun i => ((sF u 1 (0 + 1)).2.2 18 (160 * s + i)).toInt32) = fun i => (σm.2.2 18 (160 * s + i)).toInt32 := by funext i; rw [e18]
    rw [m18] at v2
    have ev : v.1 1 = 1 := by rw [mv.1 1 (by decide)]; exact e11
    have three : ∀ c1 : Int32, c1 = c0 + bI (ft (setF G 0 1) (fun i => (σm.2.2 18 (160 * s + i)).toInt32)) → mw_list_102 K (mw_list_64 K 1) (nI s) (σm.1 1) c1 v := by
      rintro c1 ec1 σ1 rfl
      show mw_list_64_b K _ (nI s) (σm.1 1) c1 (sF v 1 (v.1 1 + 1))
      rw [ev]
      have e12 : (sF v 1 (1 + 1)).1 1 = 2 := by rw [sF_s]; rfl
      unfold mw_list_64_b
      rw [e12]
      refine br_t (by decide) ?_
      rintro z rfl
      have := hK (sF (sF v 1 (1 + 1)) 1 (σm.1 1)) ⟨fun k hk => ?_, fun a ha => ?_, ?_⟩
      · rw [ec1, ec, Int32.add_comm]; exact this
      · by_cases q : k = 1
        · subst q; rw [sF_s]
        · rw [sF_n _ _ q, sF_n _ _ q, mv.1 k hk, sF_n _ _ q, m.1 k hk, sF_n _ _ q]
      · exact (mv.2.1 a ha).trans (m.2.1 a ha)
      · exact mv.2.2.trans m.2.2
    rw [v2]
    unfold mw_list_99
    refine ⟨fun c => three _ ?_, fun c => ?_⟩
    · unfold ft; rw [decide_eq_false c]; exact (Int32.add_zero _).symm
    · rw [ev]
      refine br_y rfl (three _ ?_)
      unfold ft; rw [decide_eq_true c]; rfl
  replace u2 : u.1 34 = su (fun t => pc (df (setF G 0 0) (fun i => (σm.2.2 18 (160 * s + i)).toInt32) t)) (gN (setF G 0 0)) := u2
  rw [u2]
  unfold mw_list_99
  have e1 : u.1 1 = 0 := by rw [m.1 1 (by decide)]; exact e5
  refine ⟨fun c => two _ ?_, fun c => ?_⟩
  · unfold ft; rw [decide_eq_false c]; rfl
  · rw [e1]
    refine br_n (by decide) (two _ ?_)
    unfold ft; rw [decide_eq_true c]; rfl
end Lst
theorem pl_list : Pl_list RL := by
  intro δ σ σm x h x1 x2
  obtain ⟨G, w, tr, sh, h⟩ := h
  have hn := h.n
  unfold xw_S_list
  have mno : ∀ (k : Nat) (k1 : 1 ≤ k) (k7 : k ≤ 7), (¬ -nI k = (0 : Int32)) → ∀ {K : Int32 → MSt → Prop}, K (-nI k - 10) (sI σm 6 k (σm.2.1 6 k + 1)) → ∀ y1 y2, mw_list_35 K y1 y2 (-nI k) σm := fun k k1 k7 c K hK y1 y2 => ⟨fun z => absurd z c, fun _ => mp_noTen k k1 k7 hK⟩
  refine xp_shelf h (fun c q δ1 σ1 hN => ?_) (fun s hs e => ?_)
  · refine xp_refuse 1 (by decide) (by decide) h hN (fun σ2 hr => ?_)
    unfold mw_list mw_wants
    exact mp_shelf_f c ⟨fun z => absurd rfl z, fun _ => br_n (by decide) (mno 1 (by decide) (by decide) (by decide) ⟨rfl, hr⟩ _ _)⟩
  · subst e
    refine xp_row h hs (fun a q δ1 σ1 hN => xp_refuse 3 (by decide) (by decide) h hN (fun σ2 hr => ?_)) (fun a q δ1 σ1 hN => xp_refuse 2 (by decide) (by decide) h hN (fun σ2 hr => ?_)) (fun o k n a1 a2 => ?_)
    · unfold mw_list mw_wants
      refine mp_shelf_t hs (br_n (by decide) ⟨pin hs, ?_⟩)
      rw [pcl hs, a]
      exact br_n (by decide) ⟨pin hs, br_y rfl (br_n (by decide) (mno 3 (by decide) (by decide) (by decide) ⟨rfl, hr⟩ _ _))⟩
    · unfold mw_list mw_wants
      refine mp_shelf_t hs (br_n (by decide) ⟨pin hs, ?_⟩)
      rw [pcl hs, a]
      exact br_y rfl (br_n (by decide) (mno 2 (by decide) (by decide) (by decide) ⟨rfl, hr⟩ _ _))
    · have hr := a2
      obtain ⟨d1, d2, d3, d4, d5, d6, d7, d8, d9, d10⟩ := a2
      refine xp_length hr ⟨w, h.wE, ?_⟩
      rw [h.rc.1]
      -- the model, as far as the guard
      have mgo : ∀ {K : Int32 → MSt → Prop}, ((nI n < nI (gN G) ∨ x2 < 0 ∨ 2 < x2) → mw_list_32 K (nI s) x2 σm) → (¬ nI n < nI (gN G) → ¬ x2 < 0 → x2 ≤ 2 → mw_list_35 K (nI s) x2 0 σm) → mw_list K (nI s) x2 σm := by
        intro K k0 k1
        unfold mw_list mw_wants
        refine mp_shelf_t hs (br_n (by decide) ⟨pin hs, ?_⟩)
        rw [pcl hs, d7]
        refine br_n (by decide) ⟨pin hs, br_n (by decide) (br_y rfl ⟨pin hs, ?_⟩)⟩
        rw [d9, h.rm.1]
        exact ⟨fun c => k0 (Or.inl c), fun c => ⟨fun c' => k0 (Or.inr (Or.inl c')), fun c' => ⟨fun c2 => k1 c c' c2, fun c2 => k0 (Or.inr (Or.inr (Int32.not_le.mp c2)))⟩⟩⟩
      have bad : (nI n < nI (gN G) ∨ x2 < 0 ∨ 2 < x2) → xw_S_list_39 (fun r δ1 σ1 => mw_list (fun r2 u => r = r2 ∧ RL δ1 σ1 u x) (nI s) x2 σm) x x2 o δ σ := by
        intro c
        unfold xw_S_list_39 xw_S_list_40
        refine xp_need (b := false) (fun _ q δ1 σ1 hN => xp_refuse 5 (by decide) (by decide) h hN (fun σ2 hr => ?_)) (fun z => by cases z)
        refine mgo (fun _ => mno 5 (by decide) (by decide) (by decide) ⟨rfl, hr⟩ _ _) (fun c1 c2 c3 => ?_)
        rcases c with c | c | c
        · exact absurd c c1
        · exact absurd c c2
        · exact absurd c3 (Int32.not_le.mpr c)
      refine ⟨fun c => bad (Or.inl c), fun c => xp_in (y := 0) (z := 2) (fun c' => br_t rfl (bad (Or.inr c'))) (fun c1 c2 => br_f (by decide) ?_)⟩
      have hnn : gN G ≤ n := by
        have : ¬ n < gN G := fun z => c ((nI_ltI (a := n) (b := gN G) (by omega) (by omega)).mpr z)
        omega
      unfold xw_S_list_40
      refine xp_need (b := true) (fun z => by cases z) (fun _ => ⟨fun c3 => ?_, fun c3 => ?_⟩)
      · refine xp_list89 h.wE h.u h.rc (r := fun i => (σm.2.2 18 (160 * s + i)).toInt32) (fun i hi K hK => xp_asInt hr (Nat.lt_of_lt_of_le hi hnn) hK) ?_
        refine mgo (fun z => ?_) (fun _ _ _ => ⟨fun _ => ⟨fun _ => mp_lists h.u h.rm hs (fun u m u1 u2 => ?_), fun z => absurd z c3⟩, fun z => absurd rfl z⟩)
        · exfalso
          rcases z with z | z | z
          · exact c z
          · exact c1 z
          · exact c2 z
        · rw [u1, u2]
          refine ⟨fun q => ⟨by rw [if_neg q], (h.ms m).rl⟩, fun q => ⟨by rw [if_pos q], (h.ms m).rl⟩⟩
      · subst c3
        refine xp_fitsIn h hr hnn (Or.inr rfl) (fun σ8 h8 r8 => ?_)
        have go : ∀ t0 : Int32, t0 = bI (ft (setF G 0 1) (fun i => (σm.2.2 18 (160 * s + i)).toInt32)) → xw_S_list_64 (fun r δ1 σ1 => mw_list (fun r2 u => r = r2 ∧ RL δ1 σ1 u x) (nI s) 2 σm) x o t0 δ σ8 := by
          intro t0 e0
          unfold xw_S_list_64
          refine xp_fitsIn h8 r8 hnn (Or.inl rfl) (fun σ9 h9 r9 => ?_)
          have fin : ∀ v : Int32, v = (if ft (setF G 0 0) (fun i => (σm.2.2 18 (160 * s + i)).toInt32) = true then 2 else 0) → mw_list (fun r2 u => t0 + v = r2 ∧ RL δ σ9 u x) (nI s) 2 σm := by
            intro v ev
            refine mgo (fun z => ?_) (fun _ _ _ => mp_list2 h.1 h.rm hs (fun u m => ⟨by rw [e0, ev], (h9.ms m).rl⟩))
            exfalso
            rcases z with z | z | z
            · exact c z
            · exact absurd z (by decide)
            · exact absurd z (by decide)
          refine bI_if (fun q => fin 0 ?_) (fun q => fin 2 ?_)
          · rw [q]; rfl
          · rw [q]; rfl
        refine bI_if (fun q => go 0 ?_) (fun q => go 1 ?_)
        · rw [q]; rfl
        · rw [q]; rfl
