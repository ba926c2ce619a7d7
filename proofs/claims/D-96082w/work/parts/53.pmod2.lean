section PM2
variable {G : Gd} {σ : MSt} {K : Int32 → Prop} {i j : Nat}
theorem mp_inWay (hU : gU G) (hR : RM G σ) (hi : i < gN G) (hj : j < gN G) (qi : hs G i = true) (qj : hs G j = true) (hK : K (wy G i j)) : mw_inWay σ K (nI i) (nI j) := by
  have hn : gN G ≤ 8 := hU.1
  obtain ⟨p, hp9, hp, hpN, hap, hs0, hsp⟩ := geo hU hi hj qi qj
  obtain ⟨-, k8, k9, -⟩ := hR.2.2.2.2.2 i hi
  obtain ⟨-, l8, l9, l10, -⟩ := hR.2.2.2.2.2 j hj
  obtain ⟨⟨a, ha, ea⟩, ⟨c, hc, ec⟩⟩ := (hU.2.2.1 i hi).2.1 qi
  obtain ⟨⟨b, hb, eb⟩, ⟨d, hd, ed⟩⟩ := (hU.2.2.1 j hj).2.1 qj
  have h8 : i < 8 := by omega
  have g8 : j < 8 := by omega
  unfold mw_inWay
  simp only [pcl h8, pcl g8, k8, k9, l8, l9]
  refine ⟨pin g8, pin h8, pin g8, pin h8, mp_sizeOf (mp_sizeOf ?_)⟩
  obtain ⟨u, hu, eu⟩ := ab_10 b (by omega) a (by omega)
  obtain ⟨v, hv, ev⟩ := ab_10 d (by omega) c (by omega)
  have eu' : ab (gV G 1 j - gV G 1 i) = nI u := by rw [ea, eb]; exact eu
  have ev' : ab (gV G 2 j - gV G 2 i) = nI v := by rw [ec, ed]; exact ev
  have ep : gcI 16 (nI u) (nI v) = pt G i j := by unfold pt; rw [eu', ev']
  rw [eu', ev']
  refine mp_divides 16 v u _ (by omega) (by omega) (by omega) ?_
  rw [ep]
  refine lpF (fun n s k => mw_inWay_52 σ K n (nI i) (nI j) (gV G 1 j - gV G 1 i) (gV G 2 j - gV G 2 i) (pt G i j) s k) (fun k s => s = fst (fun t => blk G i j t k) (gN G) 0) (max p 1) 1 (-1) (by omega) ?_ ?_ ?_
  · refine (fst_none (fun k _ _ => ?_)).symm
    simp [blk]
  · intro n s hs
    show mw_inWay_52_b _ _ _ _ _ _ _ _ _ _
    unfold mw_inWay_52_b
    refine br_t (by rw [hp]; exact nI_le (by omega) (by omega)) ?_
    rw [hs]
    unfold wy at hK
    rw [hpN] at hK
    by_cases q : 1 ≤ p
    · have : max p 1 = p := by omega
      rw [this]; exact hK
    · have e0 : p = 0 := by omega
      subst e0
      have : fst (fun t => blk G i j t (max 0 1)) (gN G) 0 = fst (fun t => blk G i j t 0) (gN G) 0 := fst_congr (fun k _ _ => by simp [blk])
      rw [this]; exact hK
  · intro n k s h1 hk hs L
    have hkp : k < p := by omega
    have hp0 : ¬ pt G i j = 0 := by rw [hp]; exact nI_ne0 (by omega) (by omega)
    show mw_inWay_52_b _ _ _ _ _ _ _ _ _ _
    unfold mw_inWay_52_b
    simp only [pcl h8, pcl g8, k8, k9, l10]
    refine br_f (by rw [hp]; exact nI_ge hkp (by omega)) ⟨pin h8, hp0, pin h8, hp0, mp_at hR hn ?_⟩
    have eat : ∀ t, atB G (gV G 1 i + (gV G 1 j - gV G 1 i) / pt G i j * nI k) (gV G 2 i + (gV G 2 j - gV G 2 i) / pt G i j * nI k) t = stn G i j t k := fun t => rfl
    have estep : ∀ t, blk G i j t (k + 1) = (blk G i j t k || (stn G i j t k && too G i j t k)) := fun t => by
      show (blk G i j t k || (!decide (k = 0) && stn G i j t k && too G i j t k)) = _
      have : ¬ k = 0 := by omega
      simp [this]
    rcases @fst_ge (atB G (gV G 1 i + (gV G 1 j - gV G 1 i) / pt G i j * nI k) (gV G 2 i + (gV G 2 j - gV G 2 i) / pt G i j * nI k)) (gN G) 0 with e | ⟨t, -, ht, qt, -, e⟩
    · refine br_t e (L _ ?_)
      rw [hs]
      refine fst_congr (fun t _ ht => ?_)
      have := fst_m1 hn e t (by omega)
      rw [eat] at this
      rw [estep, this]
      simp
    · have ht : t < gN G := by omega
      have h6 := (hU.2.2.1 t ht).1
      rw [eat] at qt
      have eI : atI G (gV G 1 i + (gV G 1 j - gV G 1 i) / pt G i j * nI k) (gV G 2 i + (gV G 2 j - gV G 2 i) / pt G i j * nI k) = nI t := e
      rw [eI]
      have uniq : ∀ t', t' < gN G → stn G i j t' k = true → t' = t := fun t' h' q' => by
        rw [stn_iff] at q' qt
        exact hU.2.2.2 t' t h' ht (q'.1.trans qt.1.symm) (q'.2.trans qt.2.symm)
      refine br_f (nI_m1 (by omega)) (mp_tall hR hn ht h6 (mp_eyes hR hn hi (hU.2.2.1 i hi).1 ⟨pin g8, fun c => ?_, fun c => L _ ?_⟩))
      · have et : too G i j t k = true := by unfold too; simp [c]
        have es : fst (fun t => blk G i j t (k + 1)) (gN G) 0 = fst (fun t' => blk G i j t' k || decide (t' = t)) (gN G) 0 := by
          refine fst_congr (fun t' _ h' => ?_)
          rw [estep]
          by_cases q : t' = t
          · subst q; simp [qt, et]
          · have : stn G i j t' k = false := by
              cases z : stn G i j t' k with
              | false => rfl
              | true => exact absurd (uniq t' (by omega) z) q
            simp [this, q]
        have fa := fst_add (q := fun t' => blk G i j t' k) hn ht
        rw [← es, ← hs] at fa
        refine ⟨fun z => L _ (fa.1 z).symm, fun z => ⟨fun w => L _ ((fa.2 z).1 w).symm, fun w => L _ ((fa.2 z).2 w).symm⟩⟩
      · have et : too G i j t k = false := by unfold too; simp [c]
        rw [hs]
        refine fst_congr (fun t' _ h' => ?_)
        rw [estep]
        cases z : stn G i j t' k with
        | false => simp
        | true => rw [uniq t' (by omega) z, et]; simp
theorem mp_looks (hU : gU G) (hR : RM G σ) (hi : i < gN G) (hj : j < gN G) (qi : hs G i = true) (qj : hs G j = true) (hK : K (bI (lk G i j))) : mw_looks σ K (nI i) (nI j) := by
  have hn : gN G ≤ 8 := hU.1
  obtain ⟨k7, -⟩ := hR.2.2.2.2.2 i hi
  have h8 : i < 8 := by omega
  have h6 := (hU.2.2.1 i hi).1
  unfold mw_looks
  simp only [pcl h8, k7, hR.2.2.1, kq h6 (show 5 ≤ 6 by decide) (show (5 : Int32) = nI 5 from rfl)]
  refine ⟨pin h8, fun c => ?_, fun c => mp_distance hR hn hi hj ⟨fun d => ?_, fun d => mp_inWay hU hR hi hj qi qj ⟨fun f => ?_, fun f => ?_⟩⟩⟩
  · simpa [lk, c, bI] using hK
  · simpa [lk, d, bI] using hK
  · simpa [lk, f, bI] using hK
  · simpa [lk, c, d, f, bI] using hK
theorem e_sh {f : Nat → Bool} {n i : Nat} (hn : n ≤ 8) (hi : i < n) : ((bm f n >>> (nI i &&& 31)) &&& 1) = bI (f i) := by
  rw [bt_1 _ (by omega), bm_bt _ (by omega) (by omega)]
  simp [hi]
theorem mp_isSeen (hU : gU G) (hR : RM G σ) (hi : i < gN G) (hj : j < gN G) (qi : hs G i = true) (qj : hs G j = true) (hK : K (bI (sn G i j))) : mw_isSeen σ K (nI i) (nI j) := by
  have hn : gN G ≤ 8 := hU.1
  obtain ⟨-, -, -, -, -, k12, k13⟩ := hR.2.2.2.2.2 i hi
  have h8 : i < 8 := by omega
  unfold mw_isSeen
  simp only [pcl h8, k12, k13, e_sh hn hj]
  refine ⟨pin h8, bI_fi (fun c => ⟨pin h8, bI_fi (fun d => mp_looks hU hR hi hj qi qj (bI_if (fun f => ?_) (fun f => ?_))) (fun d => ?_)⟩) (fun c => ?_)⟩
  · simpa [sn, f, bI] using hK
  · simpa [sn, c, d, f, bI] using hK
  · simpa [sn, d, bI] using hK
  · simpa [sn, c, bI] using hK
theorem mp_seesInto (hU : gU G) (hR : RM G σ) (hj : j < gN G) (qj : hs G j = true) (hK : K (into G j)) : mw_seesInto σ K (nI j) := by
  have hn : gN G ≤ 8 := hU.1
  unfold mw_seesInto
  refine lpU (fun n s i => mw_seesInto_4 σ K n (nI j) s i) (fun i s => s = bm (inB G j) i) (gN G) 0 rfl ?_ ?_
  · intro n s hs
    show mw_seesInto_4_b _ _ _ _ _ _
    unfold mw_seesInto_4_b
    rw [hR.1]
    exact br_t (nI_le (Nat.le_refl _) (by omega)) (by rw [hs]; exact hK)
  · intro n i s hi hs L
    subst hs
    show mw_seesInto_4_b _ _ _ _ _ _
    unfold mw_seesInto_4_b
    rw [hR.1]
    refine br_f (nI_ge hi (by omega)) ⟨fun c => L _ (bm_f ?_), fun c => mp_isHouse hR hn hi (hU.2.2.1 i hi).1 (bI_if (fun d => L _ (bm_f ?_)) (fun d => mp_isSeen hU hR hi hj d qj (bI_if (fun f => L _ (bm_f ?_)) (fun f => L _ (bm_t ?_)))))⟩
    · have := (nI_eq (by omega) (by omega)).mp c
      simp [inB, this]
    · simp [inB, d]
    · simp [inB, f]
    · have : ¬ i = j := fun q => c (by rw [q])
      simp [inB, this, d, f, qj]
theorem mp_seersOf (hU : gU G) (hR : RM G σ) (hj : j < gN G) (qj : hs G j = true) (hK : K (sr G j)) : mw_seersOf σ K (nI j) := by
  have hn : gN G ≤ 8 := hU.1
  unfold mw_seersOf
  refine mp_seesInto hU hR hj qj ?_
  refine lpU (fun n s i => mw_seersOf_8 σ K n s i) (fun i s => s = mk3 G j i) (gN G) (into G j) (mk3_0 G j).symm ?_ ?_
  · intro n s hs
    show mw_seersOf_8_b _ _ _ _ _
    unfold mw_seersOf_8_b
    rw [hR.1]
    exact br_t (nI_le (Nat.le_refl _) (by omega)) (by rw [hs, mk3_n]; exact hK)
  · intro n i s hi hs L
    subst hs
    obtain ⟨k7, -⟩ := hR.2.2.2.2.2 i hi
    have h8 : i < 8 := by omega
    show mw_seersOf_8_b _ _ _ _ _
    unfold mw_seersOf_8_b
    rw [hR.1]
    simp only [pcl h8, k7, kq (hU.2.2.1 i hi).1 (show 3 ≤ 6 by decide) (show (3 : Int32) = nI 3 from rfl)]
    exact br_f (nI_ge hi (by omega)) ⟨pin h8, fun c => L _ (mk3_f c), fun c => L _ (mk3_t hn hi c)⟩
theorem mp_isRight (hU : gU G) (hR : RM G σ) (hj : j < gN G) (qj : hs G j = true) (hK : K (bI (decide (pc (sr G j) = wt G j)))) : mw_isRight σ K (nI j) := by
  have hn : gN G ≤ 8 := hU.1
  obtain ⟨k7, -⟩ := hR.2.2.2.2.2 j hj
  have h8 : j < 8 := by omega
  unfold mw_isRight mw_isRight_24
  refine mp_seersOf hU hR hj qj (mp_many (sm_bm _ hn) ?_)
  simp only [pcl h8, k7, kq (hU.2.2.1 j hj).1 (show 4 ≤ 6 by decide) (show (4 : Int32) = nI 4 from rfl)]
  refine ⟨pin h8, fun c => ⟨fun d => ?_, fun d => ?_⟩, fun c => ⟨fun d => ?_, fun d => ?_⟩⟩
  all_goals simpa [wt, c, d, bI] using hK
theorem mp_allRight (hU : gU G) (hR : RM G σ) (hK : K (rt G)) : mw_allRight σ K := by
  have hn : gN G ≤ 8 := hU.1
  unfold mw_allRight
  refine lpU (fun n s i => mw_allRight_4 σ K n s i) (fun i s => s = bm (rtB G) i) (gN G) 0 rfl ?_ ?_
  · intro n s hs
    show mw_allRight_4_b _ _ _ _ _
    unfold mw_allRight_4_b
    rw [hR.1]
    exact br_t (nI_le (Nat.le_refl _) (by omega)) (by rw [hs]; exact hK)
  · intro n i s hi hs L
    subst hs
    show mw_allRight_4_b _ _ _ _ _
    unfold mw_allRight_4_b
    rw [hR.1]
    refine br_f (nI_ge hi (by omega)) (mp_isHouse hR hn hi (hU.2.2.1 i hi).1 (bI_if (fun d => L _ (bm_f ?_)) (fun d => mp_isRight hU hR hi d (bI_if (fun f => L _ (bm_f ?_)) (fun f => L _ (bm_t ?_))))))
    · simp [rtB, d]
    · simp [rtB, f]
    · simp [rtB, d, f]
end PM2
