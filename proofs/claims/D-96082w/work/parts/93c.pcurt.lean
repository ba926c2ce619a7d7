/-! curtains -/
theorem i32_tri {a b : Int32} (h : ¬ a < b) (hne : ¬ a = b) : b < a := by
  rw [Int32.lt_iff_toInt_lt] at *
  have : ¬ a.toInt = b.toInt := fun z => hne (Int32.toInt_inj.mp z)
  omega
theorem i32_as {a b : Int32} (h : a < b) : ¬ b < a ∧ ¬ a = b := by
  rw [Int32.lt_iff_toInt_lt] at h
  refine ⟨fun z => ?_, fun z => ?_⟩
  · rw [Int32.lt_iff_toInt_lt] at z; omega
  · rw [z] at h; omega
theorem sub_le : ∀ h, h < 256 → ∀ m, m < 256 → h < m → ¬ nI m &&& (nI h ^^^ (-1)) = 0 := by
  intro h hh m hm hlt z
  have b0 : ∀ j, j < 32 → bt 0 j = false := by decide
  have e : nI m &&& nI h = nI m := by
    refine b_ext (fun i hi => ?_)
    have z := congrArg (fun y => bt y i) z
    simp only [b_and, b_xor, b_m1 i hi, b0 i hi] at z
    rw [b_and]
    revert z
    cases bt (nI m) i <;> cases bt (nI h) i <;> decide
  have e2 : nI m &&& nI h = nI (m &&& h) := by
    refine Int32.toBitVec_inj.mp ?_
    rw [Int32.toBitVec_and]
    exact (BitVec.ofNat_and (x := m) (y := h) (w := 32)).symm
  rw [e2] at e
  have l1 : m &&& h ≤ h := Nat.and_le_right
  have := (nI_eq (a := m &&& h) (b := m) (by omega) (by omega)).mp e
  omega
theorem sr_0 {G : Gd} {j : Nat} (h : hs G j = false) : sr G j = 0 := by
  have : sr G j = bm (fun _ => false) (gN G) := bm_congr (fun i _ => by simp [srB, inB, h])
  rw [this, bm_0]
theorem srB_C (G : Gd) (f : Nat → Bool) (j i : Nat) : srB (setC G f) j i = (srB (setC G (fun _ => false)) j i && !f i) := by
  unfold srB inB sn
  rw [lk_C, lk_C]
  show (!decide (i = j) && hs G i && hs G j && (!f i && !gS G i j && lk G i j) && !decide (gK G i = 3)) = ((!decide (i = j) && hs G i && hs G j && (!false && !gS G i j && lk G i j) && !decide (gK G i = 3)) && !f i)
  cases f i <;> simp
theorem sr_C {G : Gd} (hn : gN G ≤ 8) (v : Int32) (j : Nat) : sr (setC G (fun _ => false)) j &&& (v ^^^ (-1)) = sr (setC G (bt v)) j := by
  refine b_ext (fun i hi => ?_)
  have hn' : gN G ≤ 32 := by omega
  unfold sr
  rw [b_and, b_xor, b_m1 i hi]
  rw [show gN (setC G (fun _ => false)) = gN G from rfl, show gN (setC G (bt v)) = gN G from rfl]
  rw [bm_bt _ hn' hi, bm_bt _ hn' hi, srB_C G (bt v)]
  cases decide (i < gN G) <;> cases srB (setC G (fun _ => false)) j i <;> cases bt v i <;> rfl
def cn (G : Gd) (v : Int32) (m : Nat) : Int32 := pc (rt (setC (setF G 0 v) (bt (nI m))))
def tt' (G : Gd) (x1 : Int32) (m : Nat) : Int32 := if 2 ≤ x1 then cn G 0 m + cn G 1 m else cn G (gF G 0) m
theorem tt_pos (G : Gd) (x1 : Int32) (m : Nat) : (-1 : Int32) < tt' G x1 m := by
  obtain ⟨a, ha, ea⟩ := pc_pos (x := rt (setC (setF G 0 0) (bt (nI m))))
  obtain ⟨b, hb, eb⟩ := pc_pos (x := rt (setC (setF G 0 1) (bt (nI m))))
  obtain ⟨c, hc, ec⟩ := pc_pos (x := rt (setC (setF G 0 (gF G 0)) (bt (nI m))))
  have : ∀ k, k < 17 → (-1 : Int32) < nI k := by decide
  unfold tt' cn
  split
  · rw [ea, eb, nI_add]; exact this _ (by omega)
  · rw [ec]; exact this _ (by omega)
def bsC (G : Gd) (x1 : Int32) : Nat → Int32 × Int32
  | 0 => (0, -1)
  | m + 1 => if nI m &&& (hsM G ^^^ (-1)) = 0 ∧ ((bsC G x1 m).2 < tt' G x1 m ∨ (tt' G x1 m = (bsC G x1 m).2 ∧ ¬ pc (bsC G x1 m).1 ≤ pc (nI m))) then (nI m, tt' G x1 m) else bsC G x1 m
theorem bsC_s (G : Gd) (x1 : Int32) (m : Nat) : bsC G x1 (m + 1) = if nI m &&& (hsM G ^^^ (-1)) = 0 ∧ ((bsC G x1 m).2 < tt' G x1 m ∨ (tt' G x1 m = (bsC G x1 m).2 ∧ ¬ pc (bsC G x1 m).1 ≤ pc (nI m))) then (nI m, tt' G x1 m) else bsC G x1 m := rfl
theorem bsC_j (G : Gd) (x1 : Int32) : ∀ m, m ≤ 256 → ∃ j, j < 256 ∧ (bsC G x1 m).1 = nI j
  | 0, _ => ⟨0, by omega, rfl⟩
  | m + 1, h => by
    rw [bsC_s]
    split
    · exact ⟨m, by omega, rfl⟩
    · exact bsC_j G x1 m (by omega)
theorem nI_sm : ∀ j, j < 256 → sm (nI j) := by
  unfold sm
  decide +kernel
theorem bsC_end {G : Gd} (x1 : Int32) {k : Nat} (hk : k < 256) (e : hsM G = nI k) : ∀ d, k + 1 + d ≤ 256 → bsC G x1 (k + 1 + d) = bsC G x1 (k + 1)
  | 0, _ => rfl
  | d + 1, h => by
    rw [← bsC_end x1 hk e d (by omega)]
    show bsC G x1 (k + 1 + d + 1) = _
    rw [bsC_s, if_neg]
    intro z
    have z := z.1
    rw [e] at z
    exact sub_le k hk (k + 1 + d) (by omega) (by omega) z
section Cur
variable {G : Gd} {tr x w : Nat} {sh : Nat → Nat} {δ : XSh} {σ : XSt} {σm : MSt} {q q' : Nat} {v x1 : Int32}
theorem xp_allInto {K : Nat → XSh → XSt → Prop} (h : RQ G w tr sh δ σ σm x) (hv : v = 0 ∨ v = 1) (hK : ∀ q δ' σ', Kp tr δ σ δ' σ' → (15, q) ∈ δ'.1 → (∀ t, t < gN G → σ'.1 15 q t = sr (setC (setF G 0 v) (fun _ => false)) t) → K q δ' σ') : xw_S_allInto K x v δ σ := by
  have hn := h.n
  rintro q δ2 σ3 ⟨hA, hF, h15, hz⟩
  refine lpU (fun n (u : XSt) i => xw_S_allInto_7 K x n v q i δ2 u) (fun i u => Kp tr δ σ δ2 u ∧ ∀ t, t < i → u.1 15 q t = sr (setC (setF G 0 v) (fun _ => false)) t) (gN G) σ3 ⟨hA.kp, fun t ht => absurd ht (by omega)⟩ ?_ ?_
  · rintro n u ⟨k, e⟩
    have hu := h.kp k
    refine ⟨w, hu.wE, ?_⟩
    rw [hu.rc.1]
    exact br_t (nI_le (Nat.le_refl _) (by omega)) (hK q δ2 u k h15 e)
  · rintro n i u hi ⟨k, e⟩ nx
    have hu := h.kp k
    have i8 : i < 8 := by omega
    have st : ∀ (u' : XSt) (val : Int32), Kp tr δ σ δ2 u' → (∀ t, t < i → u'.1 15 q t = sr (setC (setF G 0 v) (fun _ => false)) t) → val = sr (setC (setF G 0 v) (fun _ => false)) i → xw_S_allInto_41 K x (xw_S_allInto_7 K x n) v q (nI i) val (nI i) q δ2 u' := by
      intro u' val k' e' ev
      refine ⟨pin i8, ?_⟩
      rintro _ rfl
      rw [pcl i8]
      refine nx _ ⟨⟨k'.1, fun kk j hk hne => ⟨(tI_n u' i val (fun z => (hF (kk, j) hk).1 z.2)).trans (k'.2 kk j hk hne).1, (k'.2 kk j hk hne).2⟩⟩, fun t ht => ?_⟩
      rw [tI_s]
      by_cases c : t = i
      · rw [c, pk_us]; exact ev
      · rw [pk_un c]; exact e' t (by omega)
    refine ⟨w, hu.wE, ?_⟩
    rw [hu.rc.1]
    refine br_f (nI_ge hi (by omega)) (xp_house hu.rc hu.u hi (bI_if (fun c => ?_) (fun c => ?_)))
    · exact st u 0 k e (sr_0 (G := setC (setF G 0 v) (fun _ => false)) c).symm
    · refine ⟨tr, hu.tE, w, hu.wE, hu.take (fun σ4 c4 k4 => ⟨hv, ?_⟩)⟩
      rintro σ6 rfl
      have k6 : Kp tr δ2 u δ2 (tI σ4 6 tr 1 v) := k4.tr (Kp.tI ig6)
      refine ⟨tr, (hu.kp k6).tE, ?_⟩
      rintro σ8 rfl
      have k8 : Kp tr δ2 u δ2 (tI (tI σ4 6 tr 1 v) 6 tr 3 0) := k6.tr (Kp.tI ig6)
      refine ⟨tr, (hu.kp k8).tE, xp_seers (G := setC (setF G 0 v) (fun _ => false)) (h.1.sum hv).cur.u (c4.sum.cur (f := fun _ => false) (bm_0 _).symm) hi ?_⟩
      refine st _ _ (k.tr k8) (fun t ht => ?_) rfl
      rw [(k8.2 15 q h15 (n7 (by decide))).1]
      exact e t ht
theorem xp_rightsBy {K : Int32 → Prop} {m : Nat} (h : RQ G w tr sh δ σ σm x) (hv : v = 0 ∨ v = 1) (hA : ∀ t, t < gN G → σ.1 15 q t = sr (setC (setF G 0 v) (fun _ => false)) t) (hK : K (cn G v m)) : xw_S_rightsBy δ σ K x q (nI m) := by
  have hn := h.n
  have hpc : cn G v m = su (fun b => bI (rtB (setC (setF G 0 v) (bt (nI m))) b)) (gN G) := pc_bm hn
  refine lpU (fun n (z : Int32) i => xw_S_rightsBy_5 δ σ K x q n (nI m) z i) (fun i z => z = su (fun b => bI (rtB (setC (setF G 0 v) (bt (nI m))) b)) i) (gN G) 0 rfl ?_ ?_
  · rintro n _ rfl
    refine ⟨w, h.wE, ?_⟩
    rw [h.rc.1]
    rw [hpc] at hK
    exact br_t (nI_le (Nat.le_refl _) (by omega)) hK
  · rintro n i _ hi rfl nx
    have i8 : i < 8 := by omega
    have h6 := (h.u.2.2.1 i hi).1
    refine ⟨w, h.wE, ?_⟩
    rw [h.rc.1]
    have no : rtB (setC (setF G 0 v) (bt (nI m))) i = false → xw_S_rightsBy_5 δ σ K x q n (nI m) (su (fun b => bI (rtB (setC (setF G 0 v) (bt (nI m))) b)) i + 0) (nI i + 1) := fun c => nx _ (by rw [su_s, c]; rfl)
    have yes : rtB (setC (setF G 0 v) (bt (nI m))) i = true → xw_S_rightsBy_5 δ σ K x q n (nI m) (su (fun b => bI (rtB (setC (setF G 0 v) (bt (nI m))) b)) i + 1) (nI i + 1) := fun c => nx _ (by rw [su_s, c]; rfl)
    refine br_f (nI_ge hi (by omega)) (xp_house h.rc h.u hi (bI_if (fun c => no ?_) (fun c => ⟨pin i8, ?_⟩)))
    · show (hs G i && _) = false
      rw [c]; rfl
    · rw [pcl i8, hA i hi, sr_C (G := setF G 0 v) hn]
      obtain ⟨-, -, o, e8, e7, ec, -⟩ := h.rc.2.2.2.2.2.2 i hi
      refine xp_bitCount (sm_bm _ hn) ⟨pin i8, o, e8, xp_v_wanted ec h6 ⟨fun d => no ?_, fun d => yes ?_⟩⟩
      · show (hs G i && decide (pc (sr (setC (setF G 0 v) (bt (nI m))) i) = wt G i)) = false
        rw [decide_eq_false d, c]; rfl
      · show (hs G i && decide (pc (sr (setC (setF G 0 v) (bt (nI m))) i) = wt G i)) = true
        rw [decide_eq_true d, c]; rfl
theorem xp_cur {K : Int32 → XSh → XSt → Prop} {v' : Int32} (h : RQ G w tr sh δ σ σm x) (hv : (gF G 0 = 0 ∧ v' = 1) ∨ (gF G 0 = 1 ∧ v' = 0)) (hA : ∀ t, t < gN G → σ.1 15 q t = sr (setC (setF G 0 (gF G 0)) (fun _ => false)) t) (hA' : ∀ t, t < gN G → σ.1 15 q' t = sr (setC (setF G 0 v') (fun _ => false)) t) (hK : K (if (x1 - x1 / 2 * 2) = 0 then (bsC G x1 256).1 else (bsC G x1 256).2) δ σ) : ∃ n, xw_S_curtains_64 K x n x1 q q' 0 (-1) (hsM G) 0 δ σ := by
  have hn := h.n
  obtain ⟨k, hk, ek⟩ := sm_nI (sm_bm (hs G) hn)
  have ek : hsM G = nI k := ek
  have hend : bsC G x1 256 = bsC G x1 (k + 1) := by
    have := bsC_end x1 hk ek (255 - k) (by omega)
    rw [show k + 1 + (255 - k) = 256 by omega] at this
    exact this
  rw [hend] at hK
  refine lpU (fun n (z : Int32 × Int32) i => xw_S_curtains_64 K x n x1 q q' z.1 z.2 (hsM G) i δ σ) (fun i z => z = bsC G x1 i) (k + 1) (0, -1) rfl ?_ ?_
  · rintro n _ rfl
    show xw_S_curtains_64_b K x _ x1 q q' _ _ _ _ δ σ
    unfold xw_S_curtains_64_b
    rw [ek]
    refine br_t (nI_lt (by omega) (by omega)) ⟨fun c => ?_, fun c => ?_⟩
    · rw [if_neg c] at hK; exact hK
    · rw [if_pos c] at hK; exact hK
  · rintro n m _ hm rfl nx
    show xw_S_curtains_64_b K x _ x1 q q' _ _ _ _ δ σ
    unfold xw_S_curtains_64_b
    refine br_f (by rw [ek]; exact nI_nlt (by omega) (by omega)) ⟨fun c => ?_, fun c => nx _ ?_⟩
    · obtain ⟨j, hj, ej⟩ := bsC_j G x1 m (by omega)
      have fin : ∀ a b : Int32, a + b = tt' G x1 m → xw_S_curtains_107 K x (xw_S_curtains_64 K x n) x1 q q' (bsC G x1 m).1 (bsC G x1 m).2 (hsM G) (nI m) b a δ σ := by
        intro a b e
        unfold xw_S_curtains_107 xw_S_curtains_137
        rw [e]
        refine ⟨fun d => nx (nI m, tt' G x1 m) ?_, fun d => ⟨fun d2 => nx _ ?_, fun d2 => xp_bitCount (nI_sm m (by omega)) (xp_bitCount (by rw [ej]; exact nI_sm j hj) ⟨fun d3 => nx _ ?_, fun d3 => nx (nI m, tt' G x1 m) ?_⟩)⟩⟩
        · rw [bsC_s, if_pos ⟨c, Or.inl d⟩]
        · rw [bsC_s, if_neg]
          rintro ⟨-, z | z⟩
          · exact d z
          · exact d2 z.1
        · rw [bsC_s, if_neg]
          rintro ⟨-, z | z⟩
          · exact d z
          · exact z.2 d3
        · rw [bsC_s, if_pos ⟨c, Or.inr ⟨d2, d3⟩⟩]
      refine xp_rightsBy h h.1.2.1 hA ⟨fun d => xp_rightsBy h (by rcases hv with z | z; exact Or.inr z.2; exact Or.inl z.2) hA' (fin _ _ ?_), fun d => fin _ _ ?_⟩
      · unfold tt'
        rw [if_pos d]
        rcases hv with z | z
        · rw [z.1, z.2]
        · rw [z.1, z.2, Int32.add_comm]
      · unfold tt'
        rw [if_neg d]
        exact Int32.add_zero _
    · rw [bsC_s, if_neg (fun z => c z.1)]
theorem mp_draws {K : MSt → Prop} {f : Nat → Bool} {u : MSt} {y : Int32} (hn : gN G ≤ 8) (hR : RM (setC G f) u) (hK : ∀ u', RM (setC G (bt y)) u' → Mg u u' → K u') : mw_draws K y u := by
  unfold mw_draws
  refine lpU (fun n (z : MSt) i => mw_draws_2 K n y i z) (fun i z => Mg u z ∧ RM (setC G (fun t => if t < i then bt y t else f t)) z) (gN G) u ⟨Mg.rf, hR.cgC (fun a _ => by rw [if_neg (by omega)])⟩ ?_ ?_
  · rintro n z ⟨m, r⟩
    show mw_draws_2_b K _ y (nI (gN G)) z
    unfold mw_draws_2_b
    rw [r.1]
    exact br_t (nI_le (Nat.le_refl _) (by have : gN (setC G fun t => if t < gN G then bt y t else f t) = gN G := rfl; omega)) (hK z (r.cgC (fun a ha => by rw [if_pos ha])) m)
  · rintro n i z hi ⟨m, r⟩ nx
    have i8 : i < 8 := by omega
    show mw_draws_2_b K _ y (nI i) z
    unfold mw_draws_2_b
    rw [r.1]
    refine br_f (nI_ge hi (by have : gN (setC G fun t => if t < i then bt y t else f t) = gN G := rfl; omega)) ⟨pin i8, ?_⟩
    rintro z' rfl
    rw [pcl i8, bt_1 y (by omega)]
    refine nx _ ⟨m.tr (Mg.sI (by decide)), ?_⟩
    exact RM.cur (G := setC G fun t => if t < i then bt y t else f t) (i := i) (f := fun t => if t < i + 1 then bt y t else f t) r (fun t ht ne => by
      show (if t < i + 1 then bt y t else f t) = if t < i then bt y t else f t
      by_cases c : t < i
      · rw [if_pos c, if_pos (by omega)]
      · rw [if_neg c, if_neg (by omega)]) (by rw [if_pos (by omega)])
theorem setF2 (G : Gd) (a b : Int32) : setF (setF G 0 a) 0 b = setF G 0 b := by
  unfold setF
  simp only [Prod.mk.injEq, and_true, true_and]
  funext k
  by_cases q : k = 0 <;> simp [q]
theorem setF_self (G : Gd) : setF G 0 (gF G 0) = G := by
  obtain ⟨n, F, R⟩ := G
  unfold setF
  simp only [Prod.mk.injEq, and_true, true_and]
  funext k
  by_cases q : k = 0
  · rw [q]; rfl
  · rw [if_neg q]
theorem mp_rightInBoth {K : Int32 → MSt → Prop} {u : MSt} (hW : gW G) (hR : RM G u) (hK : ∀ u', Ms u u' → K (pc (rt (setF G 0 0)) + pc (rt (setF G 0 1))) u') : mw_rightInBoth K u := by
  have hn := hW.1
  rintro σ1 rfl
  refine ⟨3, ?_⟩
  have r1 : RM (setF G 0 0) (sF u 1 0) := hR.fld (a := 0) (Or.inl rfl)
  have e1 : (sF u 1 0).1 1 = 0 := by rw [sF_s]
  show mw_rightInBoth_12_b K _ (u.1 1) 0 (sF u 1 0)
  unfold mw_rightInBoth_12_b
  rw [e1]
  refine br_f (by decide) (mp_allRight (hW.sum (Or.inl rfl)).u r1 (mp_many (sm_bm _ hn) ?_))
  rintro σ2 rfl
  have r2 : RM (setF (setF G 0 0) 0 1) (sF (sF u 1 0) 1 (0 + 1)) := r1.fld (a := 0) (Or.inl rfl)
  rw [setF2] at r2
  have e2 : (sF (sF u 1 0) 1 (0 + 1)).1 1 = 1 := by rw [sF_s]; rfl
  show mw_rightInBoth_12_b K _ (u.1 1) _ (sF (sF u 1 0) 1 (0 + 1))
  unfold mw_rightInBoth_12_b
  rw [e2]
  refine br_f (by decide) (mp_allRight (hW.sum (Or.inr rfl)).u r2 (mp_many (sm_bm _ hn) ?_))
  rintro σ3 rfl
  have e3 : (sF (sF (sF u 1 0) 1 (0 + 1)) 1 (1 + 1)).1 1 = 2 := by rw [sF_s]; rfl
  show mw_rightInBoth_12_b K _ (u.1 1) _ (sF (sF (sF u 1 0) 1 (0 + 1)) 1 (1 + 1))
  unfold mw_rightInBoth_12_b
  rw [e3]
  refine br_t (by decide) ?_
  rintro σ4 rfl
  have := hK (sF (sF (sF (sF u 1 0) 1 (0 + 1)) 1 (1 + 1)) 1 (u.1 1)) ⟨fun k _ => ?_, fun _ _ => rfl, rfl⟩
  · rw [Int32.zero_add]; exact this
  · by_cases q : k = 1
    · subst q; rw [sF_s]
    · rw [sF_n _ _ q, sF_n _ _ q, sF_n _ _ q, sF_n _ _ q]
theorem mp_cur {K : Int32 → MSt → Prop} (hW : gW G) (hR : RM G σm) (hK : ∀ u, RM G u → Mg σm u → K (if (x1 - x1 / 2 * 2) = 0 then (bsC G x1 256).1 else (bsC G x1 256).2) u) : ∃ n, mw_curtains_35 K n x1 (bm (gC G) (gN G)) (hsM G) (-1) 0 0 σm := by
  have hn := hW.1
  refine lpU (fun n (z : (Int32 × Int32) × MSt) i => mw_curtains_35 K n x1 (bm (gC G) (gN G)) (hsM G) z.1.1 z.1.2 i z.2) (fun i z => (∃ f, RM (setC G f) z.2) ∧ Mg σm z.2 ∧ z.1 = if i = 0 then (-1, 0) else bsC G x1 i) 256 ((-1, 0), σm) ⟨⟨gC G, hR⟩, Mg.rf, rfl⟩ ?_ ?_
  · rintro n ⟨z1, u⟩ ⟨⟨f, r⟩, m, e⟩
    have e : z1 = bsC G x1 256 := e
    subst e
    show mw_curtains_35_b K _ x1 _ _ _ _ _ u
    unfold mw_curtains_35_b
    refine br_t (by decide) (mp_draws hn r (fun u' r' m' => ?_))
    have rr : RM G u' := r'.cgC (f' := gC G) (fun a ha => by rw [bm_bt _ (by omega) (by omega), decide_eq_true ha]; rfl)
    have := hK u' rr (m.tr m')
    refine ⟨fun c => ?_, fun c => ?_⟩
    · rw [if_neg c] at this; exact this
    · rw [if_pos c] at this; exact this
  · rintro n i ⟨z1, u⟩ hi ⟨⟨f, r⟩, m, e⟩ nx
    have e : z1 = if i = 0 then (-1, 0) else bsC G x1 i := e
    show mw_curtains_35_b K _ x1 _ _ z1.1 z1.2 _ u
    unfold mw_curtains_35_b
    refine br_f (nI_ge (b := 256) hi (by decide)) ⟨fun c => mp_draws hn r (fun u' r' m' => ?_), fun c => ?_⟩
    · have fin : ∀ u'', RM (setC G (bt (nI i))) u'' → Mg σm u'' → mw_curtains_81 K (mw_curtains_35 K n) x1 (bm (gC G) (gN G)) (hsM G) z1.1 z1.2 (nI i) (tt' G x1 i) u'' := by
        intro u'' r'' m''
        have take : bsC G x1 (i + 1) = (nI i, tt' G x1 i) → mw_curtains_35 K n x1 (bm (gC G) (gN G)) (hsM G) (nI i) (tt' G x1 i) (nI i + 1) u'' := fun z => nx ((nI i, tt' G x1 i), u'') ⟨⟨_, r''⟩, m'', by rw [if_neg (by omega)]; exact z.symm⟩
        unfold mw_curtains_81 mw_curtains_121
        by_cases i0 : i = 0
        · rw [if_pos i0] at e
          rw [e]
          refine br_t rfl (take ?_)
          have hc : (bsC G x1 i).2 < tt' G x1 i := by rw [i0]; exact tt_pos G x1 0
          rw [bsC_s, if_pos ⟨c, Or.inl hc⟩]
        · rw [if_neg i0] at e
          rw [e]
          obtain ⟨j, hj, ej⟩ := bsC_j G x1 i (by omega)
          have keep : bsC G x1 (i + 1) = bsC G x1 i → mw_curtains_35 K n x1 (bm (gC G) (gN G)) (hsM G) (bsC G x1 i).1 (bsC G x1 i).2 (nI i + 1) u'' := fun z => nx (bsC G x1 i, u'') ⟨⟨_, r''⟩, m'', by rw [if_neg (by omega)]; exact z.symm⟩
          refine br_f (by rw [ej]; exact nI_m1' (by omega)) ⟨fun d => keep ?_, fun d => ⟨fun d2 => take ?_, fun d2 => mp_many (nI_sm i hi) (mp_many (by rw [ej]; exact nI_sm j hj) ⟨fun d3 => take ?_, fun d3 => keep ?_⟩)⟩⟩
          · rw [bsC_s, if_neg]
            rintro ⟨-, z | z⟩
            · exact (i32_as d).1 z
            · exact (i32_as d).2 z.1
          · rw [bsC_s, if_pos ⟨c, Or.inl (i32_tri d d2)⟩]
          · rw [bsC_s, if_pos ⟨c, Or.inr ⟨d2, Int32.not_le.mpr d3⟩⟩]
          · rw [bsC_s, if_neg]
            rintro ⟨-, z | z⟩
            · rw [d2] at z; exact (i32_as z).2 rfl
            · exact d3 (Int32.not_le.mp z.2)
      have hW' : gW (setC G (bt (nI i))) := hW.cur
      refine ⟨fun d => mp_rightInBoth hW' r' (fun u'' m'' => ?_), fun d => mp_allRight hW'.u r' (mp_many (sm_bm _ hn) ?_)⟩
      · have := fin u'' (r'.ms m'') ((m.tr m').tr m''.mg)
        unfold tt' at this
        rw [if_pos d] at this
        exact this
      · have := fin u' r' (m.tr m')
        unfold tt' cn at this
        rw [if_neg d, setF_self] at this
        exact this
    · refine nx (z1, u) ⟨⟨f, r⟩, m, ?_⟩
      have i0 : ¬ i = 0 := fun z => c (by rw [z]; exact Int32.zero_and)
      rw [if_neg (by omega), bsC_s, if_neg (fun z => c z.1)]
      rw [if_neg i0] at e
      exact e
end Cur
theorem pl_curtains : Pl_curtains RL := by
  intro δ σ σm x h x1
  obtain ⟨G, w, tr, sh, h⟩ := h
  have hn := h.n
  unfold xw_S_curtains
  refine xp_in (y := 0) (z := 3) (fun c => xp_need (b := false) (fun _ q δ1 σ1 hN => xp_refuse 5 (by decide) (by decide) h hN (fun σ2 hr => ?_)) (fun z => by cases z)) (fun c d => xp_need (b := true) (fun z => by cases z) (fun _ => ⟨w, h.wE, ?_⟩))
  · refine ⟨fun _ => mp_no 5 (by decide) (by decide) ⟨rfl, hr⟩, fun a => ⟨fun b => ?_, fun _ => mp_no 5 (by decide) (by decide) ⟨rfl, hr⟩⟩⟩
    rcases c with c | c
    · exact absurd c a
    · exact absurd b (Int32.not_le.mpr c)
  · rw [h.rc.2.1]
    refine xp_allInto h h.1.2.1 (fun q δ7 σ8 k8 m8 a8 => ⟨w, (h.kp k8).wE, ?_⟩)
    have h8 := h.kp k8
    have go : ∀ v', (gF G 0 = 0 ∧ v' = 1) ∨ (gF G 0 = 1 ∧ v' = 0) → xw_S_curtains_42 (fun r δ1 σ1 => mw_curtains (fun r2 u => r = r2 ∧ RL δ1 σ1 u x) x1 σm) x x1 q v' x δ7 σ8 := by
      intro v' hv
      refine xp_allInto h8 (by rcases hv with z | z; exact Or.inr z.2; exact Or.inl z.2) (fun q' δ9 σ9 k9 m9 a9 => ?_)
      have h9 := h8.kp k9
      refine ⟨w, h9.wE, xp_houses h9.rc h9.u (xp_cur h9 hv (fun t ht => ?_) a9 ?_)⟩
      · rw [(k9.2 15 q m8 (n7 (by decide))).1]
        exact a8 t ht
      · refine br_f c (br_t (Int32.not_lt.mp d) (mp_drawnOnes h.rm hn (mp_houses h.u h.rm (mp_cur h.1 h.rm (fun u r m => ⟨rfl, (h9.mg r m).rl⟩)))))
    rw [h8.rc.2.1]
    rcases h.1.2.1 with z | z
    · exact br_y z (go 1 (Or.inl ⟨z, rfl⟩))
    · exact br_n (by rw [z]; decide) (go 0 (Or.inr ⟨z, rfl⟩))
