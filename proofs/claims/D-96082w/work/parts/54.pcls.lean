/-! THE CLASS's SIGHTS in plain terms: what a ground g holds -/
def RC (G : Gd) (δ : XSh) (σ : XSt) (g : Nat) : Prop := σ.1 6 g 0 = nI (gN G) ∧ σ.1 6 g 1 = gF G 0 ∧ σ.1 6 g 2 = gF G 1 ∧ σ.1 6 g 3 = bm (gC G) (gN G) ∧ σ.1 6 g 4 = gF G 2 ∧ σ.1 6 g 5 = gF G 3 ∧ ∀ i, i < gN G → σ.1 9 g i = gV G 4 i ∧ σ.1 10 g i = bm (fun a => gS G a i) (gN G) ∧ ∃ o, σ.2.2 8 g i = some o ∧ (7, o) ∈ δ.1 ∧ δ.2.2.1 o = 5 + gK G i ∧ σ.1 7 o 0 = nI i ∧ σ.1 7 o 1 = gV G 1 i ∧ σ.1 7 o 2 = gV G 2 i ∧ σ.1 7 o 3 = gV G 3 i
theorem c7 {k : Nat} (h : k ≤ 6) : k = 0 ∨ k = 1 ∨ k = 2 ∨ k = 3 ∨ k = 4 ∨ k = 5 ∨ k = 6 := by omega
theorem i64_le {x y : Int32} : (x.toInt64 ≤ y.toInt64) = (x ≤ y) := by
  rw [eq_iff_iff, Int64.le_iff_toInt_le, Int32.le_iff_toInt_le, Int32.toInt_toInt64, Int32.toInt_toInt64]
theorem i64_lt {x y : Int32} : (x.toInt64 < y.toInt64) = (x < y) := by
  rw [eq_iff_iff, Int64.lt_iff_toInt_lt, Int32.lt_iff_toInt_lt, Int32.toInt_toInt64, Int32.toInt_toInt64]
section PC
variable {G : Gd} {δ : XSh} {σ : XSt} {K : Int32 → Prop} {i j o g : Nat}
theorem xp_in {x y z : Int32} (h0 : x < y ∨ z < x → K 0) (h1 : ¬ x < y → ¬ z < x → K 1) : xw_S_in δ σ K x.toInt64 y.toInt64 z.toInt64 := by
  unfold xw_S_in
  rw [lg_cmp_lt, lg_cmp_gt, i64_lt, i64_lt]
  exact ⟨fun c => h0 (Or.inl c), fun c => ⟨fun d => h0 (Or.inr d), fun d => h1 c d⟩⟩
theorem pre_lt {n : Nat} {x : Int32} (hn : n ≤ 8) : (nI n - 1 < x) = (nI n ≤ x) := by
  rw [eq_iff_iff, Int32.lt_iff_toInt_lt, Int32.le_iff_toInt_le, nI_toInt (by omega)]
  have : ∀ n, n ≤ 8 → (nI n - 1).toInt = (n : Int) - 1 := by decide
  rw [this n hn]
  omega
theorem xp_isThing (hR : RC G δ σ g) (hn : gN G ≤ 8) {x : Int32} (h0 : (¬ ∃ i, i < gN G ∧ x = nI i) → K 0) (h1 : ∀ i, i < gN G → x = nI i → K 1) : xw_G_isThing δ σ K g x := by
  unfold xw_G_isThing
  rw [hR.1]
  refine xp_in (y := 0) (fun c => ⟨Or.inl rfl, h0 ?_⟩) (fun c d => ⟨Or.inr rfl, ?_⟩)
  · rintro ⟨i, hi, rfl⟩
    rcases c with c | c
    · exact nI_pos (by omega) c
    · rw [pre_lt hn] at c
      exact nI_ge hi (by omega) c
  · rw [pre_lt hn] at d
    rcases pk_ix x (n := gN G) (by omega) with q | q | ⟨i, hi, e⟩
    · exact absurd q c
    · exact absurd q d
    · exact h1 i hi e
theorem xp_v_isHouse (hc : δ.2.2.1 o = 5 + gK G i) (h6 : gK G i ≤ 6) (hK : K (bI (hs G i))) : xv_T_isHouse δ σ K o := by
  unfold hs at hK
  rcases c7 h6 with e | e | e | e | e | e | e <;> rw [e] at hc hK <;> simpa [xv_T_isHouse, hc, xw_T_isHouse, xw_Ho_isHouse, bI] using hK
theorem xp_isHouse (hR : RC G δ σ g) (hn : gN G ≤ 8) (h6 : ∀ i, i < gN G → gK G i ≤ 6) {x : Int32} (h0 : (¬ ∃ i, i < gN G ∧ x = nI i) → K 0) (h1 : ∀ i, i < gN G → x = nI i → K (bI (hs G i))) : xw_G_isHouse δ σ K g x := by
  unfold xw_G_isHouse
  refine xp_isThing hR hn (fun c => ⟨fun _ => h0 c, fun d => absurd rfl d⟩) (fun i hi e => ⟨fun d => absurd d (by decide), fun _ => ?_⟩)
  subst e
  have h8 : i < 8 := by omega
  obtain ⟨-, -, o, e8, -, ec, -⟩ := hR.2.2.2.2.2.2 i hi
  rw [pcl h8]
  have hk := h1 i hi rfl
  refine ⟨pin h8, o, e8, xp_v_isHouse ec (h6 i hi) (bI_if (fun c => ?_) (fun c => ?_))⟩
  · rw [c] at hk; exact hk
  · rw [c] at hk; exact hk
theorem xp_house (hR : RC G δ σ g) (hU : gU G) (hi : i < gN G) (hK : K (bI (hs G i))) : xw_G_isHouse δ σ K g (nI i) :=
  xp_isHouse hR hU.1 (fun i hi => (hU.2.2.1 i hi).1) (fun c => absurd ⟨i, hi, rfl⟩ c) (fun i' hi' e => by
    have := hU.1
    rw [(nI_eq (by omega) (by omega)).mp e] at hK
    exact hK)
theorem xp_houses (hR : RC G δ σ g) (hU : gU G) (hK : K (hsM G)) : xw_G_houses δ σ K g := by
  have hn : gN G ≤ 8 := hU.1
  unfold xw_G_houses
  refine lpU (fun n s i => xw_G_houses_4 δ σ K g n s i) (fun i s => s = bm (hs G) i) (gN G) 0 rfl ?_ ?_
  · intro n s hs
    show xw_G_houses_4_b _ _ _ _ _ _ _
    unfold xw_G_houses_4_b
    rw [hR.1]
    exact br_t (nI_le (Nat.le_refl _) (by omega)) (by rw [hs]; exact hK)
  · intro n i s hi hs L
    subst hs
    have h8 : i < 8 := by omega
    obtain ⟨-, -, o, e8, -, ec, -⟩ := hR.2.2.2.2.2.2 i hi
    show xw_G_houses_4_b _ _ _ _ _ _ _
    unfold xw_G_houses_4_b
    rw [hR.1, pcl h8]
    exact br_f (nI_ge hi (by omega)) ⟨pin h8, o, e8, xp_v_isHouse ec (hU.2.2.1 i hi).1 (bI_if (fun c => L _ (bm_o c)) (fun c => L _ (bm_t c)))⟩
theorem xp_isFree (hR : RC G δ σ g) (hn : gN G ≤ 8) {x y : Int32} (hK : K (bI (decide (atI G x y = -1)))) : xw_G_isFree δ σ K g x y := by
  unfold xw_G_isFree
  refine lpU (fun n (_ : Unit) t => xw_G_isFree_2 δ σ K g n x y t) (fun i _ => K (bI (decide (fst (atB G x y) (gN G - i) i = -1)))) (gN G) () hK ?_ ?_
  · intro n s hs
    show xw_G_isFree_2_b δ σ K g (xw_G_isFree_2 δ σ K g n) x y (nI (gN G))
    unfold xw_G_isFree_2_b
    rw [hR.1]
    refine br_t (nI_le (Nat.le_refl _) (by omega)) ?_
    rw [Nat.sub_self] at hs
    exact hs
  · intro n t s ht hs L
    have h8 : t < 8 := by omega
    obtain ⟨-, -, o, e8, -, ec, e0, e1, e2, e3⟩ := hR.2.2.2.2.2.2 t ht
    show xw_G_isFree_2_b δ σ K g (xw_G_isFree_2 δ σ K g n) x y (nI t)
    unfold xw_G_isFree_2_b
    rw [hR.1, pcl h8]
    have e : gN G - t = (gN G - (t + 1)) + 1 := by omega
    rw [e] at hs
    refine br_f (nI_ge ht (by omega)) ⟨pin h8, o, e8, ?_⟩
    rw [e1]
    refine ⟨fun c => L () ?_, fun c => ⟨pin h8, o, e8, ?_⟩⟩
    · rw [fst_f (by unfold atB; simp [c])] at hs; exact hs
    · rw [e2]
      refine ⟨fun d => L () ?_, fun d => ?_⟩
      · rw [fst_f (by unfold atB; simp [d])] at hs; exact hs
      · rw [fst_t (by unfold atB; simp [c, d])] at hs
        have := nI_m1 h8
        simpa [this, bI] using hs
theorem xp_v_tall (hc : δ.2.2.1 o = 5 + gK G i) (h6 : gK G i ≤ 6) (h3 : σ.1 7 o 3 = gV G 3 i) (h01 : gF G 0 = 0 ∨ gF G 0 = 1) (hK : K (tl G i)) : xv_T_tall δ σ K o (gV G 4 i) (gF G 0) := by
  unfold tl at hK
  rcases h01 with f | f <;> rcases c7 h6 with e | e | e | e | e | e | e <;> rw [e] at hc hK <;> rw [f] at hK ⊢ <;> simpa [xv_T_tall, hc, xw_T_tall, xw_Te_tall, xw_Fi_tall, h3] using hK
theorem xp_tall (hR : RC G δ σ g) (hU : gU G) (hi : i < gN G) (hK : K (tl G i)) : xw_G_tall δ σ K g (nI i) := by
  have hn : gN G ≤ 8 := hU.1
  have h8 : i < 8 := by omega
  obtain ⟨e9, -, o, e8, -, ec, e0, e1, e2, e3⟩ := hR.2.2.2.2.2.2 i hi
  unfold xw_G_tall
  rw [pcl h8, e9, hR.2.1]
  exact ⟨pin h8, o, e8, pin h8, xp_v_tall ec (hU.2.2.1 i hi).1 e3 hU.2.1 hK⟩
theorem xp_distance (hR : RC G δ σ g) (hn : gN G ≤ 8) (hi : i < gN G) (hj : j < gN G) (hK : K (ds G i j)) : xw_G_distance δ σ K g (nI i) (nI j) := by
  have h8 : i < 8 := by omega
  have g8 : j < 8 := by omega
  obtain ⟨e9, -, o, e8, -, ec, e0, e1, e2, e3⟩ := hR.2.2.2.2.2.2 i hi
  obtain ⟨f9, -, q, f8, -, fc, f0, f1, f2, f3⟩ := hR.2.2.2.2.2.2 j hj
  unfold xw_G_distance
  rw [pcl h8, pcl g8]
  refine ⟨pin h8, o, e8, pin g8, q, f8, ?_⟩
  rw [e1, f1]
  rintro r5 rfl
  refine ⟨pin h8, o, e8, pin g8, q, f8, ?_⟩
  rw [e2, f2]
  rintro r6 rfl r7 rfl
  exact hK
theorem xp_common : ∀ (n b a : Nat) (K : Int32 → Prop), b < n → a < 2 ^ 31 → b < 2 ^ 31 → K (gcI n (nI a) (nI b)) → xw_G_common δ σ n K (nI a) (nI b) := by
  intro n
  induction n with
  | zero => intro b a K h; omega
  | succ n ih =>
    intro b a K h ha hb hK
    show xw_G_common_b δ σ (xw_G_common δ σ n) K (nI a) (nI b)
    unfold xw_G_common_b
    rw [gcI_s] at hK
    by_cases q : nI b = 0
    · rw [if_pos q] at hK
      exact ⟨fun c => absurd q c, fun _ => hK⟩
    · have hb0 : 0 < b := by
        rcases Nat.eq_zero_or_pos b with z | z
        · subst z; exact absurd nI_0 q
        · exact z
      rw [if_neg q] at hK
      refine ⟨fun _ => ⟨q, ?_⟩, fun c => absurd c q⟩
      rw [pk_rem ha hb0 hb] at hK ⊢
      have := Nat.mod_lt a hb0
      exact ih (a % b) b K (by omega) hb (by omega) hK
theorem xp_isInWay {t : Nat} (hU : gU G) (hR : RC G δ σ g) (ht : t < gN G) (hi : i < gN G) (hj : j < gN G) (qi : hs G i = true) (qj : hs G j = true) (hK : K (bI (blk G i j t (ptN G i j)))) : xw_G_isInWay δ σ K g (nI t) (nI i) (nI j) (ey G i) := by
  have hn : gN G ≤ 8 := hU.1
  obtain ⟨p, hp9, hp, hpN, hap, hs0, hsp⟩ := geo hU hi hj qi qj
  have h8 : i < 8 := by omega
  have g8 : j < 8 := by omega
  have t8 : t < 8 := by omega
  obtain ⟨e9, -, o, e8, -, ec, e0, e1, e2, e3⟩ := hR.2.2.2.2.2.2 i hi
  obtain ⟨f9, -, q, f8, -, fc, f0, f1, f2, f3⟩ := hR.2.2.2.2.2.2 j hj
  obtain ⟨t9, -, r, u8, -, tc, t0, t1, t2, t3⟩ := hR.2.2.2.2.2.2 t ht
  obtain ⟨⟨a, ha, ea⟩, ⟨c, hc, ecc⟩⟩ := (hU.2.2.1 i hi).2.1 qi
  obtain ⟨⟨b, hb, eb⟩, ⟨d, hd, ed⟩⟩ := (hU.2.2.1 j hj).2.1 qj
  unfold xw_G_isInWay
  rw [pcl h8, pcl g8]
  refine ⟨pin g8, q, f8, pin h8, o, e8, pin g8, q, f8, pin h8, o, e8, ?_⟩
  rw [f1, f2, e1, e2]
  rintro r9 rfl r10 rfl
  obtain ⟨u, hu, eu⟩ := ab_10 b (by omega) a (by omega)
  obtain ⟨v, hv, ev⟩ := ab_10 d (by omega) c (by omega)
  have eu' : (if 0 ≤ gV G 1 j - gV G 1 i then gV G 1 j - gV G 1 i else 0 - (gV G 1 j - gV G 1 i)) = nI u := by rw [ea, eb]; exact eu
  have ev' : (if 0 ≤ gV G 2 j - gV G 2 i then gV G 2 j - gV G 2 i else 0 - (gV G 2 j - gV G 2 i)) = nI v := by rw [ecc, ed]; exact ev
  have ep : gcI 16 (nI u) (nI v) = pt G i j := by unfold pt ab; rw [eu', ev']
  rw [eu', ev']
  refine xp_common 16 v u _ (by omega) (by omega) (by omega) ?_
  rw [ep]
  refine lpF (fun n (_ : Unit) k => xw_G_isInWay_60 δ σ K g n (nI t) (nI i) (nI j) (ey G i) (gV G 1 j - gV G 1 i) (gV G 2 j - gV G 2 i) (pt G i j) k) (fun k _ => ∀ k', 1 ≤ k' → k' < k → stn G i j t k' = false) (max p 1) 1 () (by omega) ?_ ?_ ?_
  · intro k' h1 h2; omega
  · intro n s hs
    show xw_G_isInWay_60_b _ _ _ _ _ _ _ _ _ _ _ _ _
    unfold xw_G_isInWay_60_b
    refine br_t (by rw [hp]; exact nI_le (by omega) (by omega)) ?_
    rw [hpN, blk_no (fun k h1 h2 h3 => by rw [hs k h1 (by omega)] at h3; cases h3)] at hK
    exact hK
  · intro n k s h1 hk hs L
    have hkp : k < p := by omega
    have hp0 : ¬ pt G i j = 0 := by rw [hp]; exact nI_ne0 (by omega) (by omega)
    show xw_G_isInWay_60_b _ _ _ _ _ _ _ _ _ _ _ _ _
    unfold xw_G_isInWay_60_b xw_G_isInWay_131 xw_G_isInWay_132
    rw [pcl h8, pcl g8, pcl t8]
    have no : stn G i j t k = false → ∀ k', 1 ≤ k' → k' < k + 1 → stn G i j t k' = false := fun z k' z1 z2 => by
      by_cases w : k' = k
      · subst w; exact z
      · exact hs k' z1 (by omega)
    refine br_f (by rw [hp]; exact nI_ge hkp (by omega)) ⟨pin t8, r, u8, pin h8, o, e8, hp0, ?_⟩
    rw [t1, e1]
    refine ⟨fun c => ⟨fun _ => L () (no ?_), fun z => absurd rfl z⟩, fun c => ⟨pin t8, r, u8, pin h8, o, e8, hp0, ?_⟩⟩
    · unfold stn; simp [c]
    · rw [t2, e2]
      refine ⟨fun d => ⟨fun _ => L () (no ?_), fun z => absurd rfl z⟩, fun d => ⟨fun z => absurd z (by decide), fun _ => xp_tall hR hU ht ⟨pin g8, ?_⟩⟩⟩
      · unfold stn; simp [d]
      · have st : stn G i j t k = true := by rw [stn_iff]; exact ⟨c, d⟩
        have eb := blk_at h1 st (K := ptN G i j) (by rw [hpN]; exact hkp) (fun k' q1 q2 q3 => hap t k' k (by rw [hpN] at q2; omega) (by omega) q3 st)
        rw [eb] at hK
        rw [f9]
        unfold too at hK
        refine ⟨fun z => ?_, fun z => ?_⟩
        · have : ¬ ey G i * (pt G i j - nI k) + gV G 4 j * nI k < tl G t * pt G i j := Int32.not_lt.mpr z
          simpa [this, bI] using hK
        · have : ey G i * (pt G i j - nI k) + gV G 4 j * nI k < tl G t * pt G i j := Int32.not_le.mp z
          simpa [this, bI] using hK
theorem ey_ne {G : Gd} {i : Nat} (h3 : ∃ a, a ≤ 9 ∧ gV G 3 i = nI a) (h4 : ∃ a, a ≤ 20 ∧ gV G 4 i = nI a) : ¬ gV G 4 i = -1 ∧ ¬ gV G 4 i + gV G 3 i = -1 := by
  obtain ⟨a, ha, ea⟩ := h3
  obtain ⟨b, hb, eb⟩ := h4
  rw [ea, eb, nI_add]
  have : ∀ t, t < 30 → ¬ nI t = -1 := by decide
  exact ⟨this b (by omega), this (b + a) (by omega)⟩
/-- the eyes of a thing: of a house that isn't blind they are its eyes, else none -/
theorem xp_v_eyes (hc : δ.2.2.1 o = 5 + gK G i) (h6 : gK G i ≤ 6) (e3 : σ.1 7 o 3 = gV G 3 i) (hK : K (if hs G i = true ∧ ¬ gK G i = 5 then ey G i else -1)) : xv_T_eyes δ σ K o (gV G 4 i) := by
  unfold hs ey at hK
  rcases c7 h6 with e | e | e | e | e | e | e <;> rw [e] at hc hK <;> simpa [xv_T_eyes, hc, xw_T_eyes, xw_Ho_eyes, xw_To_eyes, xw_Bl_eyes, e3] using hK
theorem xp_bars (hU : gU G) (hR : RC G δ σ g) (hi : i < gN G) (hj : j < gN G) (qi : hs G i = true) (qj : hs G j = true) (hK : K (wy G i j)) : xw_G_bars δ σ K g (nI i) (nI j) := by
  have hn : gN G ≤ 8 := hU.1
  have h8 : i < 8 := by omega
  obtain ⟨e9, -, o, e8, -, ec, e0, e1, e2, e3⟩ := hR.2.2.2.2.2.2 i hi
  have h6 := (hU.2.2.1 i hi).1
  obtain ⟨n1, n2⟩ := ey_ne (hU.2.2.1 i hi).2.2.1 (hU.2.2.1 i hi).2.2.2
  obtain ⟨p, hp9, hp, hpN, hap, hs0, hsp⟩ := geo hU hi hj qi qj
  have ne : ¬ ey G i = -1 := by
    unfold ey
    by_cases c : gK G i = 3
    · rw [if_pos c]; exact n2
    · rw [if_neg c]; exact n1
  have main : ∃ n, xw_G_bars_47 δ σ K g n (nI i) (nI j) (ey G i) 0 := by
    refine lpU (fun n (_ : Unit) t => xw_G_bars_47 δ σ K g n (nI i) (nI j) (ey G i) t) (fun t _ => K (fst (fun t => blk G i j t (ptN G i j)) (gN G - t) t)) (gN G) () hK ?_ ?_
    · intro n s hs
      show xw_G_bars_47_b _ _ _ _ _ _ _ _ _
      unfold xw_G_bars_47_b
      rw [hR.1]
      refine br_t (nI_le (Nat.le_refl _) (by omega)) ?_
      rw [Nat.sub_self] at hs
      exact hs
    · intro n t s ht hs L
      show xw_G_bars_47_b _ _ _ _ _ _ _ _ _
      unfold xw_G_bars_47_b
      rw [hR.1]
      have e : gN G - t = (gN G - (t + 1)) + 1 := by omega
      rw [e] at hs
      refine br_f (nI_ge ht (by omega)) ⟨fun c => L () ?_, fun c => ⟨fun d => L () ?_, fun d => xp_isInWay hU hR ht hi hj qi qj (bI_if (fun f => L () ?_) (fun f => ?_))⟩⟩
      · obtain rfl := (nI_eq (by omega) (by omega)).mp c
        have hf : blk G t j t (ptN G t j) = false := blk_no (fun k k1 k2 k3 => absurd (hap t 0 k (by omega) (by rw [hpN] at k2; omega) hs0 k3) (by omega))
        rw [fst_f (p := fun z => blk G t j z (ptN G t j)) hf] at hs
        exact hs
      · obtain rfl := (nI_eq (by omega) (by omega)).mp d
        have hf : blk G i t t (ptN G i t) = false := blk_no (fun k k1 k2 k3 => absurd (hap t p k (by omega) (by rw [hpN] at k2; omega) hsp k3) (by rw [hpN] at k2; omega))
        rw [fst_f (p := fun z => blk G i t z (ptN G i t)) hf] at hs
        exact hs
      · rw [fst_f (p := fun z => blk G i j z (ptN G i j)) f] at hs; exact hs
      · rw [fst_t (p := fun z => blk G i j z (ptN G i j)) f] at hs; exact hs
  unfold xw_G_bars
  rw [pcl h8, e9]
  refine ⟨pin h8, o, e8, pin h8, xp_v_eyes ec h6 e3 ?_⟩
  by_cases c5 : gK G i = 5
  · rw [if_neg (fun z => z.2 c5)]
    refine ⟨fun z => absurd rfl z, fun _ => ⟨pin h8, ?_⟩⟩
    have : ey G i = gV G 4 i := by unfold ey; rw [if_neg (by omega)]
    rw [← this]; exact main
  · rw [if_pos ⟨qi, c5⟩]
    refine ⟨fun _ => ⟨pin h8, o, e8, pin h8, xp_v_eyes ec h6 e3 ?_⟩, fun z => absurd z ne⟩
    rw [if_pos ⟨qi, c5⟩]
    exact main
theorem xp_looksInto (hU : gU G) (hR : RC G δ σ g) (hi : i < gN G) (hj : j < gN G) (qi : hs G i = true) (qj : hs G j = true) (hK : K (bI (lk G i j))) : xw_G_looksInto δ σ K g (nI i) (nI j) := by
  have hn : gN G ≤ 8 := hU.1
  have h8 : i < 8 := by omega
  obtain ⟨e9, -, o, e8, -, ec, e0, e1, e2, e3⟩ := hR.2.2.2.2.2.2 i hi
  have h6 := (hU.2.2.1 i hi).1
  obtain ⟨n1, n2⟩ := ey_ne (hU.2.2.1 i hi).2.2.1 (hU.2.2.1 i hi).2.2.2
  have ne : ¬ ey G i = -1 := by
    unfold ey
    by_cases c : gK G i = 3
    · rw [if_pos c]; exact n2
    · rw [if_neg c]; exact n1
  unfold xw_G_looksInto
  rw [pcl h8, e9, hR.2.2.1]
  refine ⟨pin h8, o, e8, pin h8, xp_v_eyes ec h6 e3 ?_⟩
  by_cases c5 : gK G i = 5
  · rw [if_neg (fun z => z.2 c5)]
    refine ⟨fun _ => ?_, fun z => absurd rfl z⟩
    simpa [lk, c5, bI] using hK
  · rw [if_pos ⟨qi, c5⟩]
    refine ⟨fun z => absurd z ne, fun _ => xp_distance hR hn hi hj ⟨fun d => ?_, fun d => xp_bars hU hR hi hj qi qj ⟨fun f => ?_, fun f => ?_⟩⟩⟩
    · simpa [lk, d, bI] using hK
    · simpa [lk, f, bI] using hK
    · simpa [lk, c5, d, f, bI] using hK
theorem xp_seesInto (hU : gU G) (hR : RC G δ σ g) (hi : i < gN G) (hj : j < gN G) (qi : hs G i = true) (qj : hs G j = true) (hK : K (bI (sn G i j))) : xw_G_seesInto δ σ K g (nI i) (nI j) := by
  have hn : gN G ≤ 8 := hU.1
  have g8 : j < 8 := by omega
  obtain ⟨-, e10, -⟩ := hR.2.2.2.2.2.2 j hj
  unfold xw_G_seesInto
  rw [pcl g8, hR.2.2.2.1, e10, e_sh hn hi, e_sh hn hi]
  refine bI_fi (fun c => ⟨pin g8, bI_fi (fun d => xp_looksInto hU hR hi hj qi qj (bI_if (fun f => ?_) (fun f => ?_))) (fun d => ?_)⟩) (fun c => ?_)
  · simpa [sn, f, bI] using hK
  · simpa [sn, c, d, f, bI] using hK
  · simpa [sn, d, bI] using hK
  · simpa [sn, c, bI] using hK
theorem xp_into (hU : gU G) (hR : RC G δ σ g) (hj : j < gN G) (hK : K (into G j)) : xw_G_into δ σ K g (nI j) := by
  have hn : gN G ≤ 8 := hU.1
  unfold xw_G_into
  refine lpU (fun n s i => xw_G_into_4 δ σ K g n (nI j) s i) (fun i s => s = bm (inB G j) i) (gN G) 0 rfl ?_ ?_
  · intro n s hs
    show xw_G_into_4_b _ _ _ _ _ _ _ _
    unfold xw_G_into_4_b
    rw [hR.1]
    exact br_t (nI_le (Nat.le_refl _) (by omega)) (by rw [hs]; exact hK)
  · intro n i s hi hs L
    subst hs
    show xw_G_into_4_b _ _ _ _ _ _ _ _
    unfold xw_G_into_4_b
    rw [hR.1]
    refine br_f (nI_ge hi (by omega)) ⟨fun c => L _ (bm_o ?_), fun c => xp_house hR hU hi (bI_if (fun d => L _ (bm_o ?_)) (fun d => xp_house hR hU hj (bI_if (fun d' => L _ (bm_o ?_)) (fun d' => xp_seesInto hU hR hi hj d d' (bI_if (fun f => L _ (bm_o ?_)) (fun f => L _ (bm_t ?_)))))))⟩
    · have := (nI_eq (by omega) (by omega)).mp c
      simp [inB, this]
    · simp [inB, d]
    · simp [inB, d']
    · simp [inB, f]
    · have : ¬ i = j := fun q => c (by rw [q])
      simp [inB, this, d, f, d']
theorem xp_v_counts (hc : δ.2.2.1 o = 5 + gK G i) (h6 : gK G i ≤ 6) (hK : K (bI (!decide (gK G i = 3)))) : xv_T_counts δ σ K o := by
  rcases c7 h6 with e | e | e | e | e | e | e <;> rw [e] at hc hK <;> simpa [xv_T_counts, hc, xw_T_counts, xw_To_counts, bI] using hK
theorem xp_v_wanted (hc : δ.2.2.1 o = 5 + gK G i) (h6 : gK G i ≤ 6) (hK : K (wt G i)) : xv_T_wanted δ σ K o := by
  unfold wt at hK
  rcases c7 h6 with e | e | e | e | e | e | e <;> rw [e] at hc hK <;> simpa [xv_T_wanted, hc, xw_T_wanted, xw_Sy_wanted] using hK
theorem xp_seers (hU : gU G) (hR : RC G δ σ g) (hj : j < gN G) (hK : K (sr G j)) : xw_G_seers δ σ K g (nI j) := by
  have hn : gN G ≤ 8 := hU.1
  unfold xw_G_seers
  refine xp_into hU hR hj ?_
  refine lpU (fun n s i => xw_G_seers_8 δ σ K g n s i) (fun i s => s = mk3 G j i) (gN G) (into G j) (mk3_0 G j).symm ?_ ?_
  · intro n s hs
    show xw_G_seers_8_b _ _ _ _ _ _ _
    unfold xw_G_seers_8_b
    rw [hR.1]
    exact br_t (nI_le (Nat.le_refl _) (by omega)) (by rw [hs, mk3_n]; exact hK)
  · intro n i s hi hs L
    subst hs
    have h8 : i < 8 := by omega
    obtain ⟨-, -, o, e8, -, ec, -⟩ := hR.2.2.2.2.2.2 i hi
    show xw_G_seers_8_b _ _ _ _ _ _ _
    unfold xw_G_seers_8_b
    rw [hR.1, pcl h8]
    refine br_f (nI_ge hi (by omega)) ⟨pin h8, o, e8, xp_v_counts ec (hU.2.2.1 i hi).1 (bI_if (fun c => L _ ?_) (fun c => L _ ?_))⟩
    · exact mk3_t hn hi (by simpa using c)
    · rw [and_m1]; exact mk3_f (by simpa using c)
theorem bc_256 : ∀ k, k < 256 → ∀ r1, r1 = nI k - ((((nI k).toUInt32 >>> ((1 : Int32).toUInt32 &&& Int32.toUInt32 31)).toInt32) &&& 1431655765) → ∀ r2, r2 = (r1 &&& 858993459) + (((r1.toUInt32 >>> ((2 : Int32).toUInt32 &&& Int32.toUInt32 31)).toInt32) &&& 858993459) → ∀ r3, r3 = (r2 + ((r2.toUInt32 >>> ((4 : Int32).toUInt32 &&& Int32.toUInt32 31)).toInt32)) &&& 252645135 → ∀ r4, r4 = r3 + ((r3.toUInt32 >>> ((8 : Int32).toUInt32 &&& Int32.toUInt32 31)).toInt32) → ∀ r5, r5 = r4 + ((r4.toUInt32 >>> ((16 : Int32).toUInt32 &&& Int32.toUInt32 31)).toInt32) → r5 &&& 63 = pc (nI k) := by
  have : ∀ k, k < 256 → (fun r1 : Int32 => (fun r2 : Int32 => (fun r3 : Int32 => (fun r4 : Int32 => (fun r5 : Int32 => r5 &&& 63) (r4 + ((r4.toUInt32 >>> ((16 : Int32).toUInt32 &&& Int32.toUInt32 31)).toInt32))) (r3 + ((r3.toUInt32 >>> ((8 : Int32).toUInt32 &&& Int32.toUInt32 31)).toInt32))) ((r2 + ((r2.toUInt32 >>> ((4 : Int32).toUInt32 &&& Int32.toUInt32 31)).toInt32)) &&& 252645135)) ((r1 &&& 858993459) + (((r1.toUInt32 >>> ((2 : Int32).toUInt32 &&& Int32.toUInt32 31)).toInt32) &&& 858993459))) (nI k - ((((nI k).toUInt32 >>> ((1 : Int32).toUInt32 &&& Int32.toUInt32 31)).toInt32) &&& 1431655765)) = pc (nI k) := by decide +kernel
  rintro k hk r1 rfl r2 rfl r3 rfl r4 rfl r5 rfl
  exact this k hk
theorem xp_bitCount {x : Int32} (h : sm x) (hK : K (pc x)) : xw_Jn_bitCount δ σ K x := by
  obtain ⟨k, hk, rfl⟩ := sm_nI h
  unfold xw_Jn_bitCount
  intro r1 e1 r2 e2 r3 e3 r4 e4 r5 e5
  rw [bc_256 k hk r1 e1 r2 e2 r3 e3 r4 e4 r5 e5]
  exact hK
theorem xp_isRight (hU : gU G) (hR : RC G δ σ g) (hj : j < gN G) (hK : K (bI (decide (pc (sr G j) = wt G j)))) : xw_G_isRight δ σ K g (nI j) := by
  have hn : gN G ≤ 8 := hU.1
  have h8 : j < 8 := by omega
  obtain ⟨-, -, o, e8, -, ec, -⟩ := hR.2.2.2.2.2.2 j hj
  unfold xw_G_isRight
  refine xp_seers hU hR hj (xp_bitCount (sm_bm _ hn) ?_)
  rw [pcl h8]
  refine ⟨pin h8, o, e8, xp_v_wanted ec (hU.2.2.1 j hj).1 ⟨fun c => ?_, fun c => ?_⟩⟩
  all_goals simpa [c, bI] using hK
theorem xp_right (hU : gU G) (hR : RC G δ σ g) (hK : K (rt G)) : xw_G_right δ σ K g := by
  have hn : gN G ≤ 8 := hU.1
  unfold xw_G_right
  refine lpU (fun n s i => xw_G_right_4 δ σ K g n s i) (fun i s => s = bm (rtB G) i) (gN G) 0 rfl ?_ ?_
  · intro n s hs
    show xw_G_right_4_b _ _ _ _ _ _ _
    unfold xw_G_right_4_b
    rw [hR.1]
    exact br_t (nI_le (Nat.le_refl _) (by omega)) (by rw [hs]; exact hK)
  · intro n i s hi hs L
    subst hs
    show xw_G_right_4_b _ _ _ _ _ _ _
    unfold xw_G_right_4_b
    rw [hR.1]
    refine br_f (nI_ge hi (by omega)) (xp_house hR hU hi (bI_if (fun d => L _ (bm_o ?_)) (fun d => xp_isRight hU hR hi (bI_if (fun f => L _ (bm_o ?_)) (fun f => L _ (bm_t ?_))))))
    · simp [rtB, d]
    · simp [rtB, f]
    · simp [rtB, d, f]
theorem xp_rights (hU : gU G) (hR : RC G δ σ g) (hK : K (pc (rt G))) : xw_G_rights δ σ K g := by
  unfold xw_G_rights
  exact xp_right hU hR (xp_bitCount (sm_bm _ hU.1) hK)
theorem xp_cost (hR : RC G δ σ g) (hn : gN G ≤ 8) (hi : i < gN G) (hj : j < gN G) (hK : K (cs G i j)) : xw_G_cost δ σ K g (nI i) (nI j) := by
  have h8 : j < 8 := by omega
  obtain ⟨-, -, o, e8, -, ec, e0, e1, e2, e3⟩ := hR.2.2.2.2.2.2 j hj
  unfold xw_G_cost
  refine xp_distance hR hn hi hj ?_
  rw [pcl h8]
  refine ⟨pin h8, o, e8, ?_⟩
  rw [e3]
  exact hK
end PC
