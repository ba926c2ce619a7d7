/-! says -/
def sok (a k : Nat) : Bool := decide (a = 0) || decide (a = k) || (decide (a = 1) && !decide (k = 0) && !decide (k = 2) && !decide (k = 6)) || (decide (a = 2) && decide (k = 6))
def sv (G : Gd) (t : Nat) : Nat → Int32
  | 0 => tl G t
  | 1 => pc (sr G t)
  | 2 => if tl G t ≤ gV G 4 t then 0 else tl G t - gV G 4 t
  | 3 => gV G 4 t + gV G 3 t
  | 4 => bI (decide (pc (sr G t) = wt G t))
  | 5 => 0
  | _ => gV G 3 t
theorem sok0 : ∀ k, k < 7 → ((5 + k ∈ [5, 6, 7, 8, 9, 10, 11]) ↔ sok 0 k = true) := by decide
theorem sok1 : ∀ k, k < 7 → ((5 + k ∈ [6, 8, 9, 10]) ↔ sok 1 k = true) := by decide
theorem sok2 : ∀ k, k < 7 → ((5 + k ∈ [7, 11]) ↔ sok 2 k = true) := by decide
theorem sok3 : ∀ k, k < 7 → ((5 + k ∈ [8]) ↔ sok 3 k = true) := by decide
theorem sok4 : ∀ k, k < 7 → ((5 + k ∈ [9]) ↔ sok 4 k = true) := by decide
theorem sok5 : ∀ k, k < 7 → ((5 + k ∈ [10]) ↔ sok 5 k = true) := by decide
theorem sok6 : ∀ k, k < 7 → ((5 + k ∈ [11]) ↔ sok 6 k = true) := by decide
theorem tl_b {G : Gd} {i : Nat} (h3 : ∃ a, a ≤ 9 ∧ gV G 3 i = nI a) (h4 : ∃ a, a ≤ 20 ∧ gV G 4 i = nI a) : ∃ a, a ≤ 29 ∧ tl G i = nI a := by
  obtain ⟨a, ha, ea⟩ := h3
  obtain ⟨b, hb, eb⟩ := h4
  unfold tl
  split
  · exact ⟨b + a, by omega, by rw [ea, eb, nI_add]⟩
  · split
    · exact ⟨0, by omega, rfl⟩
    · exact ⟨b, by omega, eb⟩
theorem pos_sub : ∀ a, a < 30 → ∀ b, b < 21 → (if (0 : Int32) < nI a - nI b then nI a - nI b else 0) = if nI a ≤ nI b then 0 else nI a - nI b := by decide +kernel
section Say
variable {G : Gd} {tr x w : Nat} {sh : Nat → Nat} {δ : XSh} {σ : XSt} {σm : MSt} {i0 o t k a s : Nat} {K : Int32 → XSh → XSt → Prop} {X : Nat → XSh → XSt → Prop}
theorem e274 {v : Int32} (ho : σ.2.2 5 i0 0 = some o) (hK : K v δ σ) : xw_Sh_says_274 K X i0 w v δ σ := ⟨fun z => by (rw [ho] at z; cases z), fun _ _ => xp_need (b := true) (fun z => by cases z) (fun _ => hK)⟩
theorem e274n (ho : σ.2.2 5 i0 0 = none) (hX : ∀ q δ1 σ1, NewRe (-3) δ σ q δ1 σ1 → X q δ1 σ1) : xw_Sh_says_274 K X i0 w (-1) δ σ := ⟨fun _ => xp_need (b := false) (fun _ => hX) (fun z => by cases z), fun _ z => by (rw [ho] at z; cases z)⟩
theorem xp_says_n (ha : a ≤ 6) (ho : σ.2.2 5 i0 0 = none) (hX : ∀ q δ1 σ1, NewRe (-3) δ σ q δ1 σ1 → X q δ1 σ1) : xw_Sh_says K X i0 w (nI a) δ σ := by
  have e := e274n (K := K) (w := w) ho hX
  have n : ∀ {P : Nat → Prop}, ∀ o2, σ.2.2 5 i0 0 = some o2 → P o2 := fun o2 z => by (rw [ho] at z; cases z)
  exact ⟨fun _ => ⟨fun _ => e, n⟩, fun _ => ⟨fun _ => e, n⟩, fun _ => ⟨fun _ => e, n⟩, fun _ => ⟨fun _ => e, n⟩, fun _ => ⟨fun _ => e, n⟩, fun _ => ⟨fun _ => e, n⟩, fun _ => ⟨fun _ => e, n⟩⟩
theorem xp_says_r (ha : a ≤ 6) (ho : σ.2.2 5 i0 0 = some o) (hc : δ.2.2.1 o = 12 + k) (hk : k ≤ 3) (hX : ∀ q δ1 σ1, NewRe (-2) δ σ q δ1 σ1 → X q δ1 σ1) : xw_Sh_says K X i0 w (nI a) δ σ := by
  have n : ∀ {P : Prop}, σ.2.2 5 i0 0 = none → P := fun z => by (rw [ho] at z; cases z)
  have e : ∀ {l : List Nat} {P : Nat → Prop}, (∀ k, k < 4 → ¬ 12 + k ∈ l) → ∀ o2, σ.2.2 5 i0 0 = some o2 → (δ.2.2.1 o2 ∈ l → P o2) ∧ (¬ δ.2.2.1 o2 ∈ l → ∀ q : Nat, xw_Sh_says_293 K X i0 w q δ σ) := by
    intro l P hl o2 z
    rw [ho] at z
    cases z
    exact ⟨fun z => absurd (hc ▸ z) (hl k (by omega)), fun _ _ => hX⟩
  exact ⟨fun _ => ⟨n, e (by decide)⟩, fun _ => ⟨n, e (by decide)⟩, fun _ => ⟨n, e (by decide)⟩, fun _ => ⟨n, e (by decide)⟩, fun _ => ⟨n, e (by decide)⟩, fun _ => ⟨n, e (by decide)⟩, fun _ => ⟨n, e (by decide)⟩⟩
theorem xp_says_t (hU : gU G) (hR : RC G δ σ w) (ha : a ≤ 6) (ho : σ.2.2 5 i0 0 = some o) (ht : t < gN G) (h8 : σ.2.2 8 w t = some o) (hK : sok a (gK G t) = true → K (sv G t a) δ σ) (hX : sok a (gK G t) = false → ∀ q δ1 σ1, NewRe (-2) δ σ q δ1 σ1 → X q δ1 σ1) : xw_Sh_says K X i0 w (nI a) δ σ := by
  have h6 := (hU.2.2.1 t ht).1
  have t8 : t < 8 := by have := hU.1; omega
  obtain ⟨eh, -, o', z1, z2, hc, e7, ex1, ex2, e3⟩ := hR.2.2.2.2.2.2 t ht
  rw [h8] at z1
  cases z1
  have n : ∀ {P : Prop}, σ.2.2 5 i0 0 = none → P := fun z => by (rw [ho] at z; cases z)
  have e : ∀ {l : List Nat} {P : Nat → Prop}, (∀ k, k < 7 → (5 + k ∈ l ↔ sok a k = true)) → (sok a (gK G t) = true → P o) → ∀ o2, σ.2.2 5 i0 0 = some o2 → (δ.2.2.1 o2 ∈ l → P o2) ∧ (¬ δ.2.2.1 o2 ∈ l → ∀ q : Nat, xw_Sh_says_293 K X i0 w q δ σ) := by
    intro l P hl hP o2 z
    rw [ho] at z
    cases z
    have hl := hl (gK G t) (by omega)
    rw [← hc] at hl
    refine ⟨fun z => hP (hl.mp z), fun z _ => hX ?_⟩
    cases q : sok a (gK G t) with
    | false => rfl
    | true => exact absurd (hl.mpr q) z
  have v : ∀ {K' : Prop} , (sok a (gK G t) = true → K') → sok a (gK G t) = true → K' := fun h => h
  rcases (by omega : a = 0 ∨ a = 1 ∨ a = 2 ∨ a = 3 ∨ a = 4 ∨ a = 5 ∨ a = 6) with q | q | q | q | q | q | q <;> subst q
  · refine ⟨fun _ => ⟨n, e sok0 (fun z => ?_)⟩, fun z => absurd z (by decide), fun z => absurd z (by decide), fun z => absurd z (by decide), fun z => absurd z (by decide), fun z => absurd z (by decide), fun z => absurd z (by decide)⟩
    rw [e7]
    exact xp_tall hR hU ht (e274 ho (hK z))
  · refine ⟨fun z => absurd z (by decide), fun _ => ⟨n, e sok1 (fun z => ?_)⟩, fun z => absurd z (by decide), fun z => absurd z (by decide), fun z => absurd z (by decide), fun z => absurd z (by decide), fun z => absurd z (by decide)⟩
    rw [e7]
    exact xp_seers hU hR ht (xp_bitCount (sm_bm _ hU.1) (e274 ho (hK z)))
  · refine ⟨fun z => absurd z (by decide), fun z => absurd z (by decide), fun _ => ⟨n, e sok2 (fun z => ?_)⟩, fun z => absurd z (by decide), fun z => absurd z (by decide), fun z => absurd z (by decide), fun z => absurd z (by decide)⟩
    rw [e7]
    refine xp_tall hR hU ht ⟨pin t8, ?_⟩
    rintro r rfl
    rw [pcl t8, eh]
    refine e274 ho ?_
    obtain ⟨-, -, h3, h4⟩ := hU.2.2.1 t ht
    obtain ⟨b, hb, eb⟩ := tl_b h3 h4
    obtain ⟨c, hc', ec⟩ := h4
    have := hK z
    unfold sv at this
    rw [eb, ec] at this ⊢
    rw [pos_sub b (by omega) c (by omega)]
    exact this
  · refine ⟨fun z => absurd z (by decide), fun z => absurd z (by decide), fun z => absurd z (by decide), fun _ => ⟨n, e sok3 (fun z => ?_)⟩, fun z => absurd z (by decide), fun z => absurd z (by decide), fun z => absurd z (by decide)⟩
    rw [e7]
    refine ⟨pin t8, ?_⟩
    rw [pcl t8, eh]
    show xw_Sh_says_157 K X i0 w (gV G 4 t + σ.1 7 o 3) δ σ
    rw [e3]
    exact e274 ho (hK z)
  · refine ⟨fun z => absurd z (by decide), fun z => absurd z (by decide), fun z => absurd z (by decide), fun z => absurd z (by decide), fun _ => ⟨n, e sok4 (fun z => ?_)⟩, fun z => absurd z (by decide), fun z => absurd z (by decide)⟩
    rw [e7]
    have := hK z
    unfold sv at this
    refine xp_isRight hU hR ht (bI_if (fun q => e274 ho ?_) (fun q => e274 ho ?_))
    · rw [q] at this; exact this
    · rw [q] at this; exact this
  · refine ⟨fun z => absurd z (by decide), fun z => absurd z (by decide), fun z => absurd z (by decide), fun z => absurd z (by decide), fun z => absurd z (by decide), fun _ => ⟨n, e sok5 (fun z => ?_)⟩, fun z => absurd z (by decide)⟩
    exact e274 ho (hK z)
  · refine ⟨fun z => absurd z (by decide), fun z => absurd z (by decide), fun z => absurd z (by decide), fun z => absurd z (by decide), fun z => absurd z (by decide), fun z => absurd z (by decide), fun _ => ⟨n, e sok6 (fun z => ?_)⟩⟩
    show xw_Sh_says_244 K X i0 w (σ.1 7 o 3) δ σ
    rw [e3]
    exact e274 ho (hK z)
variable {KM : Int32 → MSt → Prop}
theorem mp_says114 (hU : gU G) (hR : RM G σm) (ha : a ≤ 6) (ht : t < gN G) (hok : sok a (gK G t) = true) (hK : KM (sv G t a) σm) : mw_says_114 KM (nI a) (nI t) σm := by
  have h6 := (hU.2.2.1 t ht).1
  have t8 : t < 8 := by have := hU.1; omega
  obtain ⟨r7, r8, r9, r10, r11, -⟩ := hR.2.2.2.2.2 t ht
  have hhs : a = 1 ∨ a = 4 → hs G t = true := by
    intro q
    have hk : ∀ a, a < 7 → ∀ k, k < 7 → a = 1 ∨ a = 4 → sok a k = true → (!decide (k = 0) && !decide (k = 2) && !decide (k = 6)) = true := by decide
    exact hk a (by omega) _ (by omega) q hok
  rcases (by omega : a = 0 ∨ a = 1 ∨ a = 2 ∨ a = 3 ∨ a = 4 ∨ a = 5 ∨ a = 6) with q | q | q | q | q | q | q <;> subst q
  · exact ⟨fun z => absurd z (by decide), fun _ => mp_tall hR hU.1 ht h6 hK, fun z => absurd z (by decide), fun z => absurd z (by decide), fun z => absurd z (by decide), fun z => absurd z (by decide), fun z => absurd z (by decide)⟩
  · exact ⟨fun z => absurd z (by decide), fun z => absurd z (by decide), fun _ => mp_seersOf hU hR ht (hhs (Or.inl rfl)) (mp_many (sm_bm _ hU.1) hK), fun z => absurd z (by decide), fun z => absurd z (by decide), fun z => absurd z (by decide), fun z => absurd z (by decide)⟩
  · refine ⟨fun z => absurd z (by decide), fun z => absurd z (by decide), fun z => absurd z (by decide), fun _ => mp_tall hR hU.1 ht h6 ⟨pin t8, ?_⟩, fun z => absurd z (by decide), fun z => absurd z (by decide), fun z => absurd z (by decide)⟩
    rw [pcl t8, r10]
    unfold sv at hK
    refine ⟨fun q => ?_, fun q => mp_tall hR hU.1 ht h6 ⟨pin t8, ?_⟩⟩
    · rw [if_pos q] at hK; exact hK
    · rw [if_neg q] at hK; exact hK
  · refine ⟨fun z => absurd z (by decide), fun z => absurd z (by decide), fun z => absurd z (by decide), fun z => absurd z (by decide), fun _ => mp_eyes hR hU.1 ht h6 ?_, fun z => absurd z (by decide), fun z => absurd z (by decide)⟩
    have hk : ∀ k, k < 7 → sok 3 k = true → k = 3 := by decide
    have e3 := hk _ (by omega) hok
    unfold ey
    rw [if_pos e3]
    exact hK
  · refine ⟨fun z => absurd z (by decide), fun z => absurd z (by decide), fun z => absurd z (by decide), fun z => absurd z (by decide), fun z => absurd z (by decide), fun _ => mp_isRight hU hR ht (hhs (Or.inr rfl)) ?_, fun z => absurd z (by decide)⟩
    unfold sv at hK
    refine bI_if (fun q => ?_) (fun q => ?_)
    · rw [q] at hK; exact hK
    · rw [q] at hK; exact hK
  · exact ⟨fun z => absurd z (by decide), fun z => absurd z (by decide), fun z => absurd z (by decide), fun z => absurd z (by decide), fun z => absurd z (by decide), fun z => absurd z (by decide), fun _ => hK⟩
  · refine ⟨fun _ => ⟨pin t8, ?_⟩, fun z => absurd z (by decide), fun z => absurd z (by decide), fun z => absurd z (by decide), fun z => absurd z (by decide), fun z => absurd z (by decide), fun z => absurd z (by decide)⟩
    rw [pcl t8, r11]
    exact hK
theorem mp_says_t (hU : gU G) (hR : RM G σm) (ha : a ≤ 6) (hs8 : s < 8) (ht : t < gN G) (h14 : σm.2.1 14 s = 2) (h17 : σm.2.1 17 s = nI t) (hK : sok a (gK G t) = true → KM (sv G t a) σm) (hX : sok a (gK G t) = false → mw_no KM (-2) σm) : mw_says KM (nI s) (nI a) σm := by
  have h6 := (hU.2.2.1 t ht).1
  have t8 : t < 8 := by have := hU.1; omega
  obtain ⟨r7, -⟩ := hR.2.2.2.2.2 t ht
  unfold mw_says
  refine mp_shelf_t hs8 ⟨fun z => absurd z (by decide), fun _ => br_f (nI_pos (by omega)) (br_t (nI_le (by omega) (by decide)) ⟨pin hs8, ?_⟩)⟩
  rw [pcl hs8, h14]
  refine ⟨fun _ => ⟨pin hs8, ⟨fun _ => ⟨pin hs8, ?_⟩, fun z => absurd z (by decide)⟩⟩, fun z => absurd z (by decide)⟩
  rw [h17]
  refine ⟨pin t8, ?_⟩
  rw [pcl t8, r7]
  have ea : (nI a = 0) = (a = 0) := kq ha (by decide) rfl
  have ea1 : (nI a = 1) = (a = 1) := kq ha (by decide) rfl
  have ea2 : (nI a = 2) = (a = 2) := kq ha (by decide) rfl
  have ek : (nI a = nI (gK G t)) = (a = gK G t) := kq ha h6 rfl
  have ek6 : (nI (gK G t) = 6) = (gK G t = 6) := kq h6 (by decide) rfl
  have go : sok a (gK G t) = true → mw_says_114 KM (nI a) (nI t) σm := fun z => mp_says114 hU hR ha ht z (hK z)
  have so : ∀ a, a < 7 → ∀ k, k < 7 → a = 0 ∨ a = k ∨ (a = 1 ∧ (!decide (k = 0) && !decide (k = 2) && !decide (k = 6)) = true) ∨ (a = 2 ∧ k = 6) → sok a k = true := by decide
  have sn' : ∀ a, a < 7 → ∀ k, k < 7 → ¬ (a = 0 ∨ a = k ∨ (a = 1 ∧ (!decide (k = 0) && !decide (k = 2) && !decide (k = 6)) = true) ∨ (a = 2 ∧ k = 6)) → sok a k = false := by decide
  have so := so a (by omega) _ (by omega : gK G t < 7)
  have sn' := sn' a (by omega) _ (by omega : gK G t < 7)
  have h95 : ¬ a = 0 → ¬ a = gK G t → ¬ (a = 1 ∧ hs G t = true) → mw_says_95 KM (nI a) (nI t) (nI (gK G t)) σm := by
    intro c1 c2 c3
    unfold mw_says_95 mw_says_107
    rw [ea2, ek6]
    refine ⟨fun c => hX (sn' ?_), fun c => ⟨fun d => go (so (Or.inr (Or.inr (Or.inr ⟨c, d⟩)))), fun d => hX (sn' ?_)⟩⟩
    · rintro (q | q | q | q)
      · exact c1 q
      · exact c2 q
      · exact c3 q
      · exact c q.1
    · rintro (q | q | q | q)
      · exact c1 q
      · exact c2 q
      · exact c3 q
      · exact d q.2
  rw [ea, ek, ea1]
  refine ⟨fun c => go (so (Or.inl c)), fun c1 => ⟨fun c => go (so (Or.inr (Or.inl c))), fun c2 => ⟨fun c => h95 c1 c2 (fun q => c q.1), fun c => mp_isHouse hR hU.1 ht h6 (bI_fi (fun q => h95 c1 c2 (fun q' => by rw [q] at q'; cases q'.2)) (fun q => go (so (Or.inr (Or.inr (Or.inl ⟨c, q⟩))))))⟩⟩⟩
end Say
theorem pl_says : Pl_says RL := by
  intro δ σ σm x h x1 x2
  obtain ⟨G, w, tr, sh, h⟩ := h
  unfold xw_S_says xw_S_says_29
  refine xp_shelf h (fun c q δ1 σ1 hN => xp_refuse 1 (by decide) (by decide) h hN (fun σ2 hr => ?_)) (fun s hs e => ?_)
  · exact mp_shelf_f c ⟨fun _ => mp_no 1 (by decide) (by decide) ⟨rfl, hr⟩, fun z => absurd rfl z⟩
  · subst e
    refine xp_in (y := 0) (z := 6) (fun c => xp_need (b := false) (fun _ q δ1 σ1 hN => xp_refuse 1 (by decide) (by decide) h hN (fun σ2 hr => ?_)) (fun z => by cases z)) (fun c d => xp_need (b := true) (fun z => by cases z) (fun _ => ⟨w, h.wE, ?_⟩))
    · refine mp_shelf_t hs ⟨fun z => absurd z (by decide), fun _ => ⟨fun _ => mp_no 1 (by decide) (by decide) ⟨rfl, hr⟩, fun a => ⟨fun b => ?_, fun _ => mp_no 1 (by decide) (by decide) ⟨rfl, hr⟩⟩⟩⟩
      rcases c with c | c
      · exact absurd c a
      · exact absurd b (Int32.not_le.mpr c)
    · obtain ⟨a, ha, e⟩ := nI_of2 (M := 6) (n := 6) (by decide) c (Int32.not_lt.mp d)
      subst e
      refine h.held hs (fun a1 a2 => xp_says_n ha a1 (fun q δ1 σ1 hN => xp_refuse 3 (by decide) (by decide) h hN (fun σ2 hr => ?_))) (fun o t a1 a2 a3 a4 a5 a6 a7 a8 a9 => xp_says_t h.u h.rc ha a1 a2 a3 (fun z => mp_says_t h.u h.rm ha hs a2 a8 a9 (fun _ => ⟨rfl, h.rl⟩) (fun y => by rw [z] at y; cases y)) (fun z q δ1 σ1 hN => xp_refuse 2 (by decide) (by decide) h hN (fun σ2 hr => mp_says_t h.u h.rm ha hs a2 a8 a9 (fun y => by rw [z] at y; cases y) (fun _ => mp_no 2 (by decide) (by decide) ⟨rfl, hr⟩)))) (fun o k n a1 a2 => ?_)
      · unfold mw_says
        refine mp_shelf_t hs ⟨fun z => absurd z (by decide), fun _ => br_f (nI_pos (by omega)) (br_t (nI_le (by omega) (by decide)) ⟨pin hs, ?_⟩)⟩
        rw [pcl hs, a2]
        exact ⟨fun _ => ⟨pin hs, ⟨fun z => absurd rfl z, fun _ => mp_no 3 (by decide) (by decide) ⟨rfl, hr⟩⟩⟩, fun z => absurd z (by decide)⟩
      · obtain ⟨b1, b2, b3, b4, b5, b6, b7, b8, b9, b10⟩ := a2
        refine xp_says_r ha a1 b3 b4 (fun q δ1 σ1 hN => xp_refuse 2 (by decide) (by decide) h hN (fun σ2 hr => ?_))
        unfold mw_says
        refine mp_shelf_t hs ⟨fun z => absurd z (by decide), fun _ => br_f (nI_pos (by omega)) (br_t (nI_le (by omega) (by decide)) ⟨pin hs, ?_⟩)⟩
        rw [pcl hs, b7]
        exact ⟨fun z => absurd rfl z, fun _ => mp_no 2 (by decide) (by decide) ⟨rfl, hr⟩⟩
