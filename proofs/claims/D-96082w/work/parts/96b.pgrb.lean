/-! ground: the class's reader -/
theorem Agr.fr2 {δ δ2 δ4 : XSh} {σ σ3 σ7 : XSt} {q : Nat} (h : Agr δ σ δ2 σ3) (hF : Fr δ q) (k : Kp q δ2 σ3 δ4 σ7) : Agr δ σ δ4 σ7 := ⟨h.1.tr k.1, fun κ hk => by
  obtain ⟨a1, a2, a3⟩ := h.2 κ hk
  obtain ⟨b1, b2, b3⟩ := k.2 κ.1 κ.2 (h.1.m hk) (fun z => (hF κ hk).1 z.1)
  exact ⟨b1.trans a1, b2.trans a2, b3.trans a3⟩⟩
theorem RC.t12 {G : Gd} {δ : XSh} {σ : XSt} {g rd j : Nat} {v : Int32} (h : RC G δ σ g) : RC G δ (tI σ 12 rd j v) g := by
  have e : ∀ k i, k ≠ 12 → (tI σ 12 rd j v).1 k i = σ.1 k i := fun k i h => tI_n σ j v (fun z => h z.1)
  unfold RC at h ⊢
  rw [e 6 g (by decide), e 9 g (by decide), e 10 g (by decide)]
  obtain ⟨h0, h1, h2, h3, h4, h5, h6⟩ := h
  refine ⟨h0, h1, h2, h3, h4, h5, fun i hi => ?_⟩
  obtain ⟨b1, b2, o, b3, b4, b5, b6⟩ := h6 i hi
  refine ⟨b1, b2, o, b3, b4, b5, ?_⟩
  rw [e 7 o (by decide)]
  exact b6
def RD (δb : XSh) (σb : XSt) (rd g o w N : Nat) (G : Gd) (p a : Nat) (δ : XSh) (σ : XSt) : Prop := Agr δb σb δ σ ∧ (12, rd) ∈ δ.1 ∧ gI δ g ∧ σ.2.2 12 rd 0 = some o ∧ σ.2.2 12 rd 1 = some g ∧ σ.1 12 rd 2 = nI p ∧ σ.1 12 rd 3 = nI a ∧ RC G δ σ g ∧ gW G ∧ N ≤ gN G ∧ ∀ j, j < N → σ.2.2 8 g j = σb.2.2 8 w j
def FL (δb : XSh) (σb : XSt) (e : Nat) (δ : XSh) (σ : XSt) (q : Nat) : Prop := Agr δb σb δ σ ∧ σ.1 14 q 6 = nI e
def BA (δb : XSh) (σb : XSt) (σm : MSt) (rd g o k n s : Nat) (t : Nat → Int32) : Prop := HRr δb σb σm s o k n ∧ Fr δb g ∧ (∀ κ ∈ δb.1, κ.2 ≠ rd) ∧ ∀ i, (σm.2.2 18 (160 * s + i)).toInt32 = t i
section RdC
variable {δb δ : XSh} {σb σ : XSt} {σm : MSt} {rd g o k n s w N p a : Nat} {t : Nat → Int32} {G : Gd}
theorem RD.hr (hB : BA δb σb σm rd g o k n s t) (h : RD δb σb rd g o w N G p a δ σ) : HRr δ σ σm s o k n := hB.1.kp (h.1.kp (tr := g))
theorem BA.le (hB : BA δb σb σm rd g o k n s t) : n ≤ 160 := hB.1.2.2.2.2.2.1
theorem RD.t2 {v : Nat} (hB : BA δb σb σm rd g o k n s t) (h : RD δb σb rd g o w N G p a δ σ) : RD δb σb rd g o w N G v a δ (tI σ 12 rd 2 (nI v)) := by
  obtain ⟨h1, h2, h3, h4, h5, h6, h7, h8, h9, h10, h11⟩ := h
  refine ⟨⟨h1.1, fun κ hk => ⟨?_, (h1.2 κ hk).2⟩⟩, h2, h3, h4, h5, ?_, ?_, h8.t12, h9, h10, h11⟩
  · rw [tI_n σ 2 (nI v) (fun z => hB.2.2.1 κ hk z.2)]; exact (h1.2 κ hk).1
  · rw [tI_s, pk_us]
  · rw [tI_s, pk_un (by decide)]; exact h7
theorem RD.t3 {v : Nat} (hB : BA δb σb σm rd g o k n s t) (h : RD δb σb rd g o w N G p a δ σ) : RD δb σb rd g o w N G p v δ (tI σ 12 rd 3 (nI v)) := by
  obtain ⟨h1, h2, h3, h4, h5, h6, h7, h8, h9, h10, h11⟩ := h
  refine ⟨⟨h1.1, fun κ hk => ⟨?_, (h1.2 κ hk).2⟩⟩, h2, h3, h4, h5, ?_, ?_, h8.t12, h9, h10, h11⟩
  · rw [tI_n σ 3 (nI v) (fun z => hB.2.2.1 κ hk z.2)]; exact (h1.2 κ hk).1
  · rw [tI_s, pk_un (by decide)]; exact h6
  · rw [tI_s, pk_us]
theorem RD.gr {G' : Gd} {δ' : XSh} {σ' : XSt} (hB : BA δb σb σm rd g o k n s t) (h : RD δb σb rd g o w N G p a δ σ) (hC : RC G' δ' σ' g) (hK : Kp g δ σ δ' σ') (hW : gW G') (hn : gN G ≤ gN G') (h8 : ∀ j, j < gN G → σ'.2.2 8 g j = σ.2.2 8 g j) : RD δb σb rd g o w N G' p a δ' σ' := by
  obtain ⟨h1, h2, h3, h4, h5, h6, h7, _, h9, h10, h11⟩ := h
  obtain ⟨k1, k2, k3⟩ := hK.2 12 rd h2 (n7 (by decide))
  exact ⟨h1.fr2 hB.2.1 hK, hK.1.m h2, h3.m hK.1, by rw [k3]; exact h4, by rw [k3]; exact h5, by rw [k1]; exact h6, by rw [k1]; exact h7, hC, hW, by omega, fun j hj => (h8 j (by omega)).trans (h11 j hj)⟩
theorem RD.fl {q e : Nat} {δ' : XSh} {σ' : XSt} (h : RD δb σb rd g o w N G p a δ σ) (hN : NewFa (nI e) δ σ q δ' σ') : FL δb σb e δ' σ' q := ⟨h.1.tr hN.1, hN.2.2.2⟩
theorem xq_ends {K : Int32 → Prop} (hB : BA δb σb σm rd g o k n s t) (h : RD δb σb rd g o w N G p a δ σ) (hp : p ≤ n) (h1 : p = n → K 1) (h0 : ¬ p = n → K 0) : xw_Rd_ends δ σ K rd := by
  have hn := hB.le
  refine ⟨o, h.2.2.2.1, xp_length (h.hr hB) ?_⟩
  rw [h.2.2.2.2.2.1]
  exact ⟨fun c => h0 (fun z => c (by rw [z])), fun c => h1 ((nI_eq (by omega) (by omega)).mp c)⟩
theorem xq_ch {K : Int32 → Prop} {i : Nat} (hB : BA δb σb σm rd g o k n s t) (h : RD δb σb rd g o w N G p a δ σ) (hp : i < n) (hK : K (t i)) : xv_R_asInt δ σ K o (nI i) := xp_asInt (h.hr hB) hp (by rw [hB.2.2.2 i]; exact hK)
theorem xq_sees {K : Int32 → Prop} {c : Int32} (hB : BA δb σb σm rd g o k n s t) (h : RD δb σb rd g o w N G p a δ σ) (hp : p ≤ n) (hK : K (bI (tcB t n c p))) : xw_Rd_sees δ σ K rd c := by
  unfold tcB at hK
  refine xq_ends hB h hp (fun e => br_n (by decide) ?_) (fun e => br_y rfl ⟨o, h.2.2.2.1, ?_⟩)
  · rw [decide_eq_false (by omega)] at hK; exact hK
  · rw [h.2.2.2.2.2.1]
    rw [decide_eq_true (by omega : p < n)] at hK
    refine xq_ch hB h (by omega) ⟨fun c => ?_, fun c => ?_⟩
    · rw [decide_eq_false c] at hK; exact hK
    · rw [decide_eq_true c] at hK; exact hK
theorem xq_digit {K : Int32 → Prop} (hB : BA δb σb σm rd g o k n s t) (h : RD δb σb rd g o w N G p a δ σ) (hp : p ≤ n) (hK : K (bI (dg t n p))) : xw_Rd_digit δ σ K rd := by
  unfold dg at hK
  refine xq_ends hB h hp (fun e => br_n (by decide) ?_) (fun e => br_y rfl ⟨o, h.2.2.2.1, ?_⟩)
  · rw [decide_eq_false (by omega)] at hK; exact hK
  · rw [h.2.2.2.2.2.1]
    rw [decide_eq_true (by omega : p < n)] at hK
    refine xq_ch hB h (by omega) ⟨fun c => ?_, fun c => xq_ch hB h (by omega) ⟨fun d => ?_, fun d => ?_⟩⟩
    · rw [decide_eq_true c] at hK; exact hK
    · rw [decide_eq_false c, decide_eq_true d] at hK; exact hK
    · rw [decide_eq_false c, decide_eq_false d] at hK; exact hK
variable {K0 : XSh → XSt → Prop} {K1 : Int32 → XSh → XSt → Prop} {X : Nat → XSh → XSt → Prop}
theorem xq_must {c : Int32} (hB : BA δb σb σm rd g o k n s t) (h : RD δb σb rd g o w N G p a δ σ) (hp : p ≤ n) (h1 : tcB t n c p = true → ∀ σ', RD δb σb rd g o w N G (p + 1) a δ σ' → K0 δ σ') (h0 : tcB t n c p = false → ∀ q δ' σ', FL δb σb p δ' σ' q → X q δ' σ') : xw_Rd_must K0 X rd c δ σ := by
  refine xq_sees hB h hp (bI_fi (fun z => ?_) (fun z => ?_))
  · intro q δ' σ' hN
    rw [h.2.2.2.2.2.1] at hN
    exact h0 z q δ' σ' (h.fl hN)
  · intro σ3 e3
    rw [h.2.2.2.2.2.1, nI_1] at e3
    rw [e3]
    exact h1 z _ (h.t2 hB)
theorem xq_room {b : Bool} {e : Nat} (h : RD δb σb rd g o w N G p a δ σ) (h1 : b = true → K0 δ σ) (h0 : b = false → ∀ q δ' σ', FL δb σb e δ' σ' q → X q δ' σ') {z : Nat} {v : Int32} (hv : v = nI e) : xw_Rd_hasRoom K0 X z (bI b) v δ σ := by
  refine bI_fi (fun y q δ' σ' hN => ?_) h1
  rw [hv] at hN
  exact h0 y q δ' σ' (h.fl hN)
theorem xq_number {lo hi : Int32} (hB : BA δb σb σm rd g o k n s t) (h : RD δb σb rd g o w N G p a δ σ) (hp : p ≤ n) (h1 : tcB t n 32 p = true → dg t n (p + 1) = true → rng lo hi (vl t n (p + 1)) = true → ∀ σ', RD δb σb rd g o w N G (pe t n (p + 1)) (p + 1) δ σ' → K1 (vl t n (p + 1)) δ σ') (h2 : tcB t n 32 p = true → (dg t n (p + 1) = true → rng lo hi (vl t n (p + 1)) = false) → ∀ q δ' σ', FL δb σb (p + 1) δ' σ' q → X q δ' σ') (h3 : tcB t n 32 p = false → ∀ q δ' σ', FL δb σb p δ' σ' q → X q δ' σ') : xw_Rd_number K1 X rd lo hi δ σ := by
  have hn := hB.le
  refine xq_must hB h hp (fun z σ2 r2 => ?_) h3
  have pl := (tcB_lt z).1
  intro σ4 e4
  rw [r2.2.2.2.2.2.1] at e4
  have r4 : RD δb σb rd g o w N G (p + 1) (p + 1) δ σ4 := by rw [e4]; exact r2.t3 hB
  have fin : ∀ (v : Int32) (σ8 : XSt), v = vl t n (p + 1) → dg t n (p + 1) = true → RD δb σb rd g o w N G (pe t n (p + 1)) (p + 1) δ σ8 → xw_Rd_number_89 K1 X rd lo hi v δ σ8 := by
    intro v σ8 ev d8 r8
    subst ev
    refine xp_in (fun c => ?_) (fun c d => ?_)
    · refine xq_room (b := false) r8 (fun y => by cases y) (fun _ => h2 z (fun _ => ?_)) r8.2.2.2.2.2.2.1
      unfold rng
      rcases c with c | c
      · rw [decide_eq_true c]; rfl
      · rw [decide_eq_true c]; simp
    · refine xq_room (b := true) r8 (fun _ => h1 z d8 ?_ _ r8) (fun y => by cases y) r8.2.2.2.2.2.2.1
      unfold rng
      rw [decide_eq_false c, decide_eq_false d]; rfl
  refine xq_digit hB r4 pl (bI_fi (fun y => ?_) (fun y => ⟨o, r4.2.2.2.1, ?_⟩))
  · intro q δ' σ' hN
    rw [r4.2.2.2.2.2.1] at hN
    exact h2 z (fun y' => by rw [y] at y'; cases y') q δ' σ' (r4.fl hN)
  · have p1 := dg_lt y
    intro σ8 e8
    rw [r4.2.2.2.2.2.1, nI_1] at e8
    have r8 : RD δb σb rd g o w N G (p + 1 + 1) (p + 1) δ σ8 := by rw [e8]; exact r4.t2 hB
    rw [r4.2.2.2.2.2.1]
    refine xq_ch hB r8 p1 (xq_digit hB r8 p1 (bI_if (fun y2 => fin _ _ ?_ y ?_) (fun y2 => ⟨o, r8.2.2.2.1, ?_⟩)))
    · unfold vl; rw [if_neg (by rw [y2]; decide)]
    · unfold pe; rw [if_neg (by rw [y2]; decide)]; exact r8
    · intro σ14 e14
      rw [r8.2.2.2.2.2.1, nI_1] at e14
      have r14 : RD δb σb rd g o w N G (p + 1 + 1 + 1) (p + 1) δ σ14 := by rw [e14]; exact r8.t2 hB
      rw [r8.2.2.2.2.2.1]
      refine xq_ch hB r14 (dg_lt y2) (fin _ _ ?_ y ?_)
      · unfold vl; rw [if_pos y2]
      · unfold pe; rw [if_pos y2]; exact r14
theorem xq_num {R : Type} {kk : Int32 → Nat → R} {xx : Nat → R} {lo hi : Int32} {so : Int32 → Bool} (ex : Int32 → Bool) (hso : ∀ v, so v = (rng lo hi v && ex v)) (hB : BA δb σb σm rd g o k n s t) (h : RD δb σb rd g o w N G p a δ σ) (hp : p ≤ n) (hK : ∀ v p' b, (ex v = true → nuS t n p so kk xx = kk v p') → (ex v = false → nuS t n p so kk xx = xx (p + 1)) → rng lo hi v = true → b < 100 → v = nI b → p ≤ p' → p' ≤ n → ∀ σ', RD δb σb rd g o w N G p' (p + 1) δ σ' → K1 v δ σ') (hX : ∀ e, nuS t n p so kk xx = xx e → ∀ q δ' σ', FL δb σb e δ' σ' q → X q δ' σ') : xw_Rd_number K1 X rd lo hi δ σ := by
  refine xq_number hB h hp (fun z d r σ' r' => ?_) (fun z d => hX _ (nu_x1 z (fun d' => by rw [hso, d d']; rfl))) (fun z => hX _ (nu_x0 z))
  obtain ⟨b, hb, eb⟩ := vl_nn d
  have := pe_lt (t := t) (n := n) (p := p + 1)
  exact hK _ _ b (fun y => nu_k z d (by rw [hso, r, y]; rfl)) (fun y => nu_x1 z (fun _ => by rw [hso, y, Bool.and_false])) r (by omega) eb (by omega) (pe_le d) σ' r'
theorem rng99 : ∀ a, a < 100 → rng 0 99 (nI a) = true := by decide
theorem xq_house {R : Type} {kk : Int32 → Nat → R} {xx : Nat → R} {so : Int32 → Bool} (ex : Int32 → Bool) (hso : ∀ v, so v = (hsB G v && ex v)) (hB : BA δb σb σm rd g o k n s t) (h : RD δb σb rd g o w N G p a δ σ) (hp : p ≤ n) (hK : ∀ v p' b, (ex v = true → nuS t n p so kk xx = kk v p') → (ex v = false → nuS t n p so kk xx = xx (p + 1)) → b < gN G → hs G b = true → v = nI b → p ≤ p' → p' ≤ n → ∀ σ', RD δb σb rd g o w N G p' (p + 1) δ σ' → K1 v δ σ') (hX : ∀ e, nuS t n p so kk xx = xx e → ∀ q δ' σ', FL δb σb e δ' σ' q → X q δ' σ') : xw_Rd_house K1 X rd δ σ := by
  have hW := h.2.2.2.2.2.2.2.2.1
  refine xq_number hB h hp (fun z d r σ' r' => ?_) (fun z d => hX _ (nu_x1 z (fun d' => ?_))) (fun z => hX _ (nu_x0 z))
  · obtain ⟨b, hb, eb⟩ := vl_nn d
    have := pe_lt (t := t) (n := n) (p := p + 1)
    refine ⟨g, r'.2.2.2.2.1, ?_⟩
    have go : ∀ B : Bool, B = hsB G (vl t n (p + 1)) → xw_Rd_hasRoom (fun δ7 σ8 => K1 (vl t n (p + 1)) δ7 σ8) (fun q13 δ10 σ11 => X q13 δ10 σ11) rd (bI B) (σ'.1 12 rd 3) δ σ' := by
      intro B eB
      refine xq_room r' (fun y => ?_) (fun y => hX _ (nu_x1 z (fun _ => by rw [hso, ← eB, y]; rfl))) r'.2.2.2.2.2.2.1
      rw [y] at eB
      have q := (hsB_nn (G := G) (a := b) (by omega)).mp (by rw [← eb]; exact eB.symm)
      exact hK _ _ b (fun y => nu_k z d (by rw [hso, ← eB, y]; rfl)) (fun y => nu_x1 z (fun _ => by rw [hso, y, Bool.and_false])) q.1 q.2 eb (by omega) (pe_le d) σ' r'
    refine xp_isHouse r'.2.2.2.2.2.2.2.1 hW.1 (fun i hi => (hW.u.2.2.1 i hi).1) (fun c => go false ?_) (fun i hi e => go (hs G i) ?_)
    · symm
      cases q : hsB G (vl t n (p + 1)) with
      | false => rfl
      | true =>
        rw [eb] at q
        exact absurd ⟨b, ((hsB_nn (by omega)).mp q).1, eb⟩ c
    · rw [e]
      unfold hsB
      rw [nI_clamp (by have := hW.1; omega), decide_eq_true hi]; rfl
  · exfalso
    obtain ⟨b, hb, eb⟩ := vl_nn d'
    have := d d'
    rw [eb, rng99 b (by omega)] at this
    cases this
theorem xq_word2 {i1 : Nat} {l : List Int32} (hB : BA δb σb σm rd g o k n s t) (el : bytS.getD i1 [] = l) (en : lenS.getD i1 0 = l.length) (h5 : l.length ≤ 5) : ∀ (m j p : Nat) (σ : XSt), j + m = l.length → p ≤ n → RD δb σb rd g o w N G p a δ σ → (pre t n (l.drop j) p = m → ∀ σ', RD δb σb rd g o w N G (p + m) a δ σ' → p + m ≤ n → K0 δ σ') → (pre t n (l.drop j) p < m → ∀ q δ' σ', FL δb σb (p + pre t n (l.drop j) p) δ' σ' q → X q δ' σ') → xw_Rd_word_2 K0 X rd i1 (m + 1) (nI j) δ σ
  | 0, j, p, σ, hj, hp, h, h1, h0 => by
    show xw_Rd_word_2_b K0 X rd i1 _ (nI j) δ σ
    unfold xw_Rd_word_2_b
    rw [en]
    refine br_t (nI_le (by omega) (by omega)) (h1 ?_ σ h hp)
    rw [List.drop_eq_nil_of_le (by omega)]; rfl
  | m + 1, j, p, σ, hj, hp, h, h1, h0 => by
    have jl : j < l.length := by omega
    have e : l.drop j = l[j] :: l.drop (j + 1) := List.drop_eq_getElem_cons jl
    show xw_Rd_word_2_b K0 X rd i1 _ (nI j) δ σ
    unfold xw_Rd_word_2_b
    rw [en, el, nI_clamp (by omega)]
    have eg : l.getD j 0 = l[j] := by rw [List.getD_eq_getElem?_getD, List.getElem?_eq_getElem jl]; rfl
    rw [eg]
    rw [e] at h1 h0
    refine br_f (nI_ge jl (by omega)) ⟨vp_in_nI jl (by omega), xq_must hB h hp (fun z σ' r' => ?_) (fun z => ?_)⟩
    · have pl := (tcB_lt z).1
      rw [nI_1]
      have ep : pre t n (l[j] :: l.drop (j + 1)) p = pre t n (l.drop (j + 1)) (p + 1) + 1 := by
        show (if tcB t n l[j] p = true then _ else _) = _
        rw [if_pos z]
      rw [ep] at h1 h0
      refine xq_word2 hB el en h5 m (j + 1) (p + 1) σ' (by omega) pl r' (fun q σ2 r2 q2 => h1 (by omega) σ2 (by rw [show p + (m + 1) = p + 1 + m by omega]; exact r2) (by omega)) (fun q => ?_)
      have := h0 (by omega)
      rw [show p + (pre t n (l.drop (j + 1)) (p + 1) + 1) = p + 1 + pre t n (l.drop (j + 1)) (p + 1) by omega] at this
      exact this
    · have ep : pre t n (l[j] :: l.drop (j + 1)) p = 0 := by
        show (if tcB t n l[j] p = true then _ else _) = _
        rw [if_neg (by rw [z]; decide)]
      rw [ep] at h0
      exact h0 (by omega)
theorem xq_word {i1 : Nat} {l : List Int32} (hB : BA δb σb σm rd g o k n s t) (el : bytS.getD i1 [] = l) (en : lenS.getD i1 0 = l.length) (h5 : l.length ≤ 5) (hp : p ≤ n) (h : RD δb σb rd g o w N G p a δ σ) (h1 : pre t n l p = l.length → ∀ σ', RD δb σb rd g o w N G (p + l.length) a δ σ' → p + l.length ≤ n → K0 δ σ') (h0 : pre t n l p < l.length → ∀ q δ' σ', FL δb σb (p + pre t n l p) δ' σ' q → X q δ' σ') : xw_Rd_word K0 X rd i1 δ σ := ⟨l.length + 1, by omega, xq_word2 hB el en h5 l.length 0 p σ (by omega) hp h h1 h0⟩
end RdC
