/-! felled, years -/
def gCf (a b v : Nat) : Bool :=
  let P := gcI 16 (ab (nI b - nI a)) (ab (nI v - 9))
  let q := (nI b - nI a) / P
  (List.range P.toNatClampNeg).all (fun k => !decide (nI a + q * nI k = -100))
theorem gCf_ok : ∀ a, a < 10 → ∀ b, b < 10 → ∀ v, v < 19 → gCf a b v = true := by decide +kernel
/-- the ground with a tree felled: as the class has it, and as the model has it -/
def feG (G : Gd) (t : Nat) : Gd := (gN G, gF G, fun i => if i = t then 0 else gK G i, fun b i => if i = t ∧ (b = 3 ∨ b = 4) then 0 else gV G b i, gC G, gS G)
def faG (G : Gd) (t : Nat) : Gd := setV G 1 t (-100)
theorem fa_V (G : Gd) (t b i : Nat) : gV (faG G t) b i = if b = 1 ∧ i = t then -100 else gV G b i := rfl
theorem fe_V (G : Gd) (t b i : Nat) : gV (feG G t) b i = if i = t ∧ (b = 3 ∨ b = 4) then 0 else gV G b i := rfl
theorem fe_K (G : Gd) (t i : Nat) : gK (feG G t) i = if i = t then 0 else gK G i := rfl
section FE
variable {G : Gd} {t i j : Nat}
theorem fa_ne (b : Nat) (h : i ≠ t) : gV (faG G t) b i = gV G b i := by rw [fa_V, if_neg (fun z => h z.2)]
theorem fe_ne (b : Nat) (h : i ≠ t) : gV (feG G t) b i = gV G b i := by rw [fe_V, if_neg (fun z => h z.1)]
theorem fk_ne (h : i ≠ t) : gK (feG G t) i = gK G i := by rw [fe_K, if_neg h]
theorem fh (h : hs G t = false) (i : Nat) : hs (feG G t) i = hs G i := by
  by_cases q : i = t
  · subst q
    rw [h]
    unfold hs
    rw [fe_K, if_pos rfl]
    rfl
  · unfold hs
    rw [fk_ne q]
theorem fa_pt (hi : i ≠ t) (hj : j ≠ t) : pt (faG G t) i j = pt G i j := by unfold pt; rw [fa_ne _ hi, fa_ne _ hi, fa_ne _ hj, fa_ne _ hj]
theorem fe_pt (hi : i ≠ t) (hj : j ≠ t) : pt (feG G t) i j = pt G i j := by unfold pt; rw [fe_ne _ hi, fe_ne _ hi, fe_ne _ hj, fe_ne _ hj]
theorem fa_u (hW : gW G) (ht : hs G t = false) : gU (faG G t) := by
  refine ⟨hW.1, hW.2.1, fun i hi => ⟨(hW.2.2.2.1 i hi).1, fun q => ?_, ?_, ?_⟩, fun i j hi hj e1 e2 => ?_⟩
  · have q : hs G i = true := q
    have ne : i ≠ t := fun e => by rw [e, ht] at q; cases q
    rw [fa_ne _ ne, fa_ne _ ne]
    exact ⟨(hW.2.2.2.1 i hi).2.1, (hW.2.2.2.1 i hi).2.2.1⟩
  · rw [fa_V, if_neg (fun z => absurd z.1 (by decide))]; exact (hW.2.2.2.1 i hi).2.2.2.1
  · rw [fa_V, if_neg (fun z => absurd z.1 (by decide))]; exact (hW.2.2.2.1 i hi).2.2.2.2
  · have m100 : ∀ a, a ≤ 9 → ¬ nI a = -100 := by decide
    rw [fa_V, fa_V, if_neg (fun z => absurd z.1 (by decide)), if_neg (fun z => absurd z.1 (by decide))] at e2
    by_cases qi : i = t
    · by_cases qj : j = t
      · rw [qi, qj]
      · exfalso
        rw [fa_ne _ qj, fa_V, if_pos ⟨rfl, qi⟩] at e1
        obtain ⟨a, ha, ea⟩ := (hW.2.2.2.1 j hj).2.1
        rw [ea] at e1
        exact m100 a ha e1.symm
    · by_cases qj : j = t
      · exfalso
        rw [fa_ne _ qi, fa_V, if_pos ⟨rfl, qj⟩] at e1
        obtain ⟨a, ha, ea⟩ := (hW.2.2.2.1 i hi).2.1
        rw [ea] at e1
        exact m100 a ha e1
      · rw [fa_ne _ qi, fa_ne _ qj] at e1
        exact hW.2.2.2.2 i j hi hj e1 e2
theorem fe_u (hW : gW G) (ht : hs G t = false) : gU (feG G t) := by
  refine ⟨hW.1, hW.2.1, fun i hi => ⟨?_, fun q => ?_, ?_, ?_⟩, fun i j hi hj e1 e2 => ?_⟩
  · rw [fe_K]
    by_cases q : i = t
    · rw [if_pos q]; decide
    · rw [if_neg q]; exact (hW.2.2.2.1 i hi).1
  · rw [fe_V, if_neg (fun z => absurd z.2 (by decide)), fe_V, if_neg (fun z => absurd z.2 (by decide))]
    exact ⟨(hW.2.2.2.1 i hi).2.1, (hW.2.2.2.1 i hi).2.2.1⟩
  · by_cases q : i = t
    · exact ⟨0, by decide, by rw [fe_V, if_pos ⟨q, Or.inl rfl⟩]; rfl⟩
    · rw [fe_ne _ q]; exact (hW.2.2.2.1 i hi).2.2.2.1
  · by_cases q : i = t
    · exact ⟨0, by decide, by rw [fe_V, if_pos ⟨q, Or.inr rfl⟩]; rfl⟩
    · rw [fe_ne _ q]; exact (hW.2.2.2.1 i hi).2.2.2.2
  · rw [fe_V, if_neg (fun z => absurd z.2 (by decide)), fe_V, if_neg (fun z => absurd z.2 (by decide))] at e1 e2
    exact hW.2.2.2.2 i j hi hj e1 e2
theorem far100 (hW : gW G) (hi : i < gN G) (hj : j < gN G) {k : Nat} (hk : k < ptN G i j) : ¬ (-100 : Int32) = gV G 1 i + (gV G 1 j - gV G 1 i) / pt G i j * nI k := by
  obtain ⟨a, ha, ea⟩ := (hW.2.2.2.1 i hi).2.1
  obtain ⟨b, hb, eb⟩ := (hW.2.2.2.1 j hj).2.1
  obtain ⟨c, hc, ec⟩ := (hW.2.2.2.1 i hi).2.2.1
  obtain ⟨d, hd, ed⟩ := (hW.2.2.2.1 j hj).2.2.1
  obtain ⟨v, hv, ev⟩ := gC19 c (by omega) d (by omega)
  have ck := gCf_ok a (by omega) b (by omega) v hv
  unfold gCf at ck
  have eP : pt G i j = gcI 16 (ab (nI b - nI a)) (ab (nI v - 9)) := by unfold pt; rw [ea, eb, ec, ed, ev]
  unfold ptN at hk
  rw [eP] at hk
  simp only [List.all_eq_true, List.mem_range, Bool.not_eq_true', decide_eq_false_iff_not] at ck
  rw [ea, eb, eP]
  exact fun z => ck k hk z.symm
theorem f_blk (hW : gW G) (ht : hs G t = false) (hi : i < gN G) (hj : j < gN G) (qi : hs G i = true) (qj : hs G j = true) (t' : Nat) : blk (faG G t) i j t' (ptN G i j) = blk (feG G t) i j t' (ptN G i j) := by
  have ni : i ≠ t := fun e => by rw [e, ht] at qi; cases qi
  have nj : j ≠ t := fun e => by rw [e, ht] at qj; cases qj
  by_cases q : t' = t
  · subst q
    rw [blk_no (fun k k1 k2 k3 => ?_), blk_no (fun k k1 k2 k3 => ?_)]
    · obtain ⟨p, hp9, hp, hpN, -⟩ := geo hW.u hi hj qi qj
      unfold too
      have et : tl (feG G t') t' = 0 := by
        unfold tl
        rw [fe_K, if_pos rfl, if_neg (by omega), if_neg (by decide), fe_V, if_pos ⟨rfl, Or.inr rfl⟩]
      have ee : ey (feG G t') i = ey G i := by unfold ey; rw [fk_ne ni, fe_ne _ ni, fe_ne _ ni]
      rw [et, fe_pt ni nj, ee, fe_ne _ nj, hp]
      obtain ⟨a, ha, ea⟩ := (hW.2.2.2.1 i hi).2.2.2.1
      obtain ⟨b, hb, eb⟩ := (hW.2.2.2.1 i hi).2.2.2.2
      obtain ⟨c, hc, ec⟩ := (hW.2.2.2.1 j hj).2.2.2.2
      have e9 : ∃ e, e ≤ 29 ∧ ey G i = nI e := by
        unfold ey
        by_cases z : gK G i = 3
        · rw [if_pos z, ea, eb, nI_add]; exact ⟨b + a, by omega, rfl⟩
        · rw [if_neg z, eb]; exact ⟨b, by omega, rfl⟩
      obtain ⟨e, he, ee2⟩ := e9
      rw [hpN] at k2
      rw [ee2, ec, pk_sub (by omega), pk_mul, pk_mul, nI_add, Int32.zero_mul]
      have m1 : e * (p - k) ≤ 29 * 9 := Nat.mul_le_mul he (by omega)
      have m2 : c * k ≤ 20 * 9 := Nat.mul_le_mul hc (by omega)
      exact decide_eq_false (nI_pos (by omega))
    · exfalso
      rw [stn_iff, fa_pt ni nj, fa_ne _ ni, fa_ne _ nj, fa_V, if_pos ⟨rfl, rfl⟩] at k3
      exact far100 hW hi hj k2 k3.1
  · have es : ∀ k, stn (faG G t) i j t' k = stn (feG G t) i j t' k := fun k => by
      unfold stn
      rw [fa_pt ni nj, fe_pt ni nj]
      rw [fa_ne 1 q, fa_ne 1 ni, fa_ne 1 nj, fa_ne 2 q, fa_ne 2 ni, fa_ne 2 nj, fe_ne 1 q, fe_ne 1 ni, fe_ne 1 nj, fe_ne 2 q, fe_ne 2 ni, fe_ne 2 nj]
    have eo : ∀ k, too (faG G t) i j t' k = too (feG G t) i j t' k := fun k => by
      have e1 : tl (faG G t) t' = tl (feG G t) t' := by
        unfold tl
        rw [fk_ne q, fe_ne 4 q, fe_ne 3 q, fa_ne 4 q, fa_ne 3 q]
        rfl
      have e2 : ey (faG G t) i = ey (feG G t) i := by
        unfold ey
        rw [fk_ne ni, fe_ne 4 ni, fe_ne 3 ni, fa_ne 4 ni, fa_ne 3 ni]
        rfl
      unfold too
      rw [e1, e2, fa_pt ni nj, fe_pt ni nj, fa_ne 4 nj, fe_ne 4 nj]
    generalize ptN G i j = N
    induction N with
    | zero => rfl
    | succ k ih =>
      show (blk (faG G t) i j t' k || (!decide (k = 0) && stn (faG G t) i j t' k && too (faG G t) i j t' k)) = (blk (feG G t) i j t' k || (!decide (k = 0) && stn (feG G t) i j t' k && too (feG G t) i j t' k))
      rw [ih, es, eo]
theorem f_lk (hW : gW G) (ht : hs G t = false) (hi : i < gN G) (hj : j < gN G) (qi : hs G i = true) (qj : hs G j = true) : lk (faG G t) i j = lk (feG G t) i j := by
  have ni : i ≠ t := fun e => by rw [e, ht] at qi; cases qi
  have nj : j ≠ t := fun e => by rw [e, ht] at qj; cases qj
  have ew : wy (faG G t) i j = wy (feG G t) i j := by
    have e1 : ptN (faG G t) i j = ptN G i j := by unfold ptN; rw [fa_pt ni nj]
    have e2 : ptN (feG G t) i j = ptN G i j := by unfold ptN; rw [fe_pt ni nj]
    unfold wy
    rw [e1, e2]
    exact fst_congr (fun t' _ _ => f_blk hW ht hi hj qi qj t')
  have ed : ds (faG G t) i j = ds (feG G t) i j := by
    unfold ds
    rw [fa_ne 1 ni, fa_ne 1 nj, fa_ne 2 ni, fa_ne 2 nj, fe_ne 1 ni, fe_ne 1 nj, fe_ne 2 ni, fe_ne 2 nj]
  have ek : gK (faG G t) i = gK (feG G t) i := by rw [fk_ne ni]; rfl
  unfold lk
  rw [ew, ed, ek]
  rfl
theorem f_rt (hW : gW G) (ht : hs G t = false) : rt (faG G t) = rt (feG G t) := by
  have hh : ∀ i, hs (feG G t) i = hs (faG G t) i := fun i => fh ht i
  have hsr : ∀ j, j < gN G → hs G j = true → sr (faG G t) j = sr (feG G t) j := by
    intro j hj qj
    refine bm_congr (fun i hi => ?_)
    have hi : i < gN G := hi
    unfold srB inB
    rw [hh i, hh j]
    cases qi : hs (faG G t) i with
    | false => simp
    | true =>
      have qi : hs G i = true := qi
      have ni : i ≠ t := fun e => by rw [e, ht] at qi; cases qi
      have es : sn (faG G t) i j = sn (feG G t) i j := by
        unfold sn
        rw [f_lk hW ht hi hj qi qj]
        rfl
      have ek : gK (faG G t) i = gK (feG G t) i := by rw [fk_ne ni]; rfl
      rw [es, ek]
  refine bm_congr (fun j hj => ?_)
  have hj : j < gN G := hj
  unfold rtB
  rw [hh j]
  cases qj : hs (faG G t) j with
  | false => rw [Bool.false_and, Bool.false_and]
  | true =>
    have qj : hs G j = true := qj
    have nj : j ≠ t := fun e => by rw [e, ht] at qj; cases qj
    have ew : wt (faG G t) j = wt (feG G t) j := by unfold wt; rw [fk_ne nj]; rfl
    rw [hsr j hj qj, ew]
end FE
theorem RC.ag {G : Gd} {δ δ1 : XSh} {σ σ1 : XSt} {g : Nat} (h : RC G δ σ g) (hi : gI δ g) (hA : Agr δ σ δ1 σ1) : RC G δ1 σ1 g := h.kp hi (show g ≠ g + 1 by omega) hA.kp
theorem RC.fe {G : Gd} {δ : XSh} {σ : XSt} {g t q : Nat} (h : RC G δ σ g) (ht : t < gN G) (h1 : (7, q) ∈ δ.1) (h2 : δ.2.2.1 q = 5) (f0 : σ.1 7 q 0 = nI t) (f1 : σ.1 7 q 1 = gV G 1 t) (f2 : σ.1 7 q 2 = gV G 2 t) (f3 : σ.1 7 q 3 = 0) : RC (feG G t) δ (tI (tP σ 8 g t (some q)) 9 g t 0) g := by
  obtain ⟨a0, a1, a2, a3, a4, a5, a6⟩ := h
  refine ⟨a0, a1, a2, a3, a4, a5, fun i hi => ?_⟩
  have hi : i < gN G := hi
  obtain ⟨b1, b2, o, b3, b4, b5, b6, b7, b8, b9⟩ := a6 i hi
  have e9 : (tI (tP σ 8 g t (some q)) 9 g t 0).1 9 g i = if i = t then 0 else σ.1 9 g i := by rw [tI_s, upd_e]; rfl
  have e8 : (tI (tP σ 8 g t (some q)) 9 g t 0).2.2 8 g i = if i = t then some q else σ.2.2 8 g i := by
    show (tP σ 8 g t (some q)).2.2 8 g i = _
    rw [tP_s, vup_e]
  have e7 : ∀ o, (tI (tP σ 8 g t (some q)) 9 g t 0).1 7 o = σ.1 7 o := fun o => by rw [tI_n _ _ _ (fun z => absurd z.1 (by decide))]; rfl
  have e10 : (tI (tP σ 8 g t (some q)) 9 g t 0).1 10 g = σ.1 10 g := by rw [tI_n _ _ _ (fun z => absurd z.1 (by decide))]; rfl
  rw [e9, e8, e10]
  by_cases c : i = t
  · subst c
    rw [if_pos rfl, if_pos rfl]
    refine ⟨by rw [fe_V, if_pos ⟨rfl, Or.inr rfl⟩], b2, q, rfl, h1, by rw [h2, fe_K, if_pos rfl], ?_⟩
    rw [e7]
    refine ⟨f0, ?_, ?_, ?_⟩
    · rw [f1, fe_V, if_neg (fun z => absurd z.2 (by decide))]
    · rw [f2, fe_V, if_neg (fun z => absurd z.2 (by decide))]
    · rw [f3, fe_V, if_pos ⟨rfl, Or.inl rfl⟩]
  · rw [if_neg c, if_neg c]
    refine ⟨by rw [fe_ne _ c]; exact b1, b2, o, b3, b4, by rw [fk_ne c]; exact b5, ?_⟩
    rw [e7, fe_ne _ c, fe_ne _ c, fe_ne _ c]
    exact ⟨b6, b7, b8, b9⟩
theorem RM.fa {G : Gd} {u : MSt} {t : Nat} (h : RM G u) : RM (faG G t) (sI u 8 t (-100)) := by
  obtain ⟨h0, h1, h2, h3, h4, h5⟩ := h
  refine ⟨h0, h1, h2, h3, h4, fun i hi => ?_⟩
  obtain ⟨a1, a2, a3, a4, a5, a6, a7⟩ := h5 i hi
  refine ⟨a1, ?_, a3, a4, a5, a6, a7⟩
  rw [sI_s, upd_e, fa_V]
  by_cases q : i = t
  · rw [if_pos q, if_pos ⟨rfl, q⟩]
  · rw [if_neg q, if_neg (fun z => q z.2)]; exact a2
theorem RM.fb {G : Gd} {u : MSt} {t : Nat} (h : RM (faG G t) u) : RM G (sI u 8 t (gV G 1 t)) := by
  obtain ⟨h0, h1, h2, h3, h4, h5⟩ := h
  refine ⟨h0, h1, h2, h3, h4, fun i hi => ?_⟩
  obtain ⟨a1, a2, a3, a4, a5, a6, a7⟩ := h5 i hi
  refine ⟨a1, ?_, a3, a4, a5, a6, a7⟩
  rw [sI_s, upd_e]
  by_cases q : i = t
  · rw [if_pos q, q]
  · rw [if_neg q, a2, fa_ne _ q]
theorem pl_felled : Pl_felled RL := by
  intro δ σ σm x h x1
  obtain ⟨G, w, tr, sh, h⟩ := h
  have hn := h.n
  unfold xw_S_felled xw_S_felled_21 xw_S_felled_101
  refine xp_mustThing h (fun c q δ1 σ1 hN => xp_refuse 1 (by decide) (by decide) h hN (fun σ2 hr => ?_)) (fun t ht e => ⟨w, h.wE, ?_⟩)
  · exact mp_thing_f h.rm hn c ⟨fun z => absurd rfl z, fun _ => mp_noMuch 1 (by decide) (by decide) ⟨ng1000 1 (by decide) (by decide), hr⟩⟩
  · subst e
    have t8 : t < 8 := by omega
    have h6 := (h.u.2.2.1 t ht).1
    refine xp_house h.rc h.u ht (bI_fi (fun c => ?_) (fun c => ?_))
    · refine xp_need (b := true) (fun z => by cases z) (fun _ => ⟨tr, h.tE, w, h.wE, h.take (fun σ7 c7 k7 => ?_)⟩)
      have h7 := h.kp k7
      obtain ⟨-, -, o, e8, -, ec, e0, e1, e2, e3⟩ := h7.rc.2.2.2.2.2.2 t ht
      rw [pcl t8]
      refine ⟨w, h7.wE, pin t8, o, e8, pin t8, o, e8, fun q δ1 σ1 hN => ⟨pin t8, ?_⟩⟩
      obtain ⟨hA, hF, r1, r2, r3, r4, r5, r6⟩ := hN
      rw [e1] at r4
      rw [e2] at r5
      have h8 := h7.kp hA.kp
      rintro σ21 rfl
      have k21 : Kp tr δ σ δ1 (tP σ1 8 tr t (some q)) := (k7.tr hA.kp).tr (Kp.tP ig8)
      refine ⟨tr, (h.kp k21).tE, pin t8, ?_⟩
      rintro σ24 rfl
      have k24 : Kp tr δ σ δ1 (tI (tP σ1 8 tr t (some q)) 9 tr t 0) := k21.tr (Kp.tI ig9)
      have h24 := h.kp k24
      have c24 : RC (feG G t) δ1 (tI (tP σ1 8 tr t (some q)) 9 tr t 0) tr := (c7.ag h7.gt hA).fe ht r1 r2 r3 r4 r5 r6
      refine ⟨tr, h24.tE, xp_rights (fe_u h.1 c) c24 ⟨w, h24.wE, xp_rights h.u h24.rc ?_⟩⟩
      unfold mw_felled
      refine mp_thing_t h.rm hn ht ⟨fun _ => mp_isHouse h.rm hn ht h6 (bI_if (fun _ => ?_) (fun z => by rw [c] at z; cases z)), fun z => absurd z (by decide)⟩
      refine mp_allRight h.u h.rm (mp_many (sm_bm _ hn) ?_)
      rw [pcl t8, (h.rm.2.2.2.2.2 t ht).2.1]
      refine ⟨pin t8, pin t8, ?_⟩
      rintro σ9 rfl
      refine mp_allRight (fa_u h.1 c) h.rm.fa (mp_many (sm_bm _ hn) ⟨pin t8, ?_⟩)
      rintro σ13 rfl
      refine ⟨?_, (h24.mg h.rm.fa.fb ((Mg.sI (by decide)).tr (Mg.sI (by decide)))).rl⟩
      rw [f_rt h.1 c]
    · refine xp_need (b := false) (fun _ q δ1 σ1 hN => xp_refuse 2 (by decide) (by decide) h hN (fun σ2 hr => ?_)) (fun z => by cases z)
      unfold mw_felled
      exact mp_thing_t h.rm hn ht ⟨fun _ => mp_isHouse h.rm hn ht h6 (bI_if (fun z => by rw [c] at z; cases z) (fun _ => mp_noMuch 2 (by decide) (by decide) ⟨ng1000 2 (by decide) (by decide), hr⟩)), fun z => absurd z (by decide)⟩
