/-! ground: the class's items -/
section ItE
variable {R : Type} {t : Nat → Int32} {n p w : Nat} {G : Gd} {k : Gd → Nat → R} {x : Nat → R}
theorem it_x (hw : wst t n p = w) (hl : pre t n (Wl w) p < (Wl w).length) : itC t n G p k x = x (p + pre t n (Wl w) p) := by
  unfold itC kwC
  rw [hw, if_pos hl]
theorem it_f (hw : wst t n p = 0) (hl : ¬ pre t n (Wl 0) p < (Wl 0).length) (h8 : gN G = 8) : itC t n G p k x = x p := by
  unfold itC kwC
  rw [hw, if_neg hl, if_pos ⟨rfl, decide_eq_true h8⟩]
theorem it_0 (hw : wst t n p = 0) (hl : ¬ pre t n (Wl 0) p < (Wl 0).length) (h8 : ¬ gN G = 8) : itC t n G p k x = nuS t n (p + 5) (rng 0 6) (fun v0 p0 => nuS t n p0 (rng 0 9) (fun v1 p1 => nuS t n p1 (fun v => rng 0 9 v && decide (atI G v1 v = -1)) (fun v2 p2 => nuS t n p2 (rng 0 20) (fun v3 p3 => nuS t n p3 (rng 0 9) (fun v4 p4 => k (addG G v0.toNatClampNeg v1 v2 v3 v4) p4) x) x) x) x) x := by
  unfold itC kwC
  rw [hw, if_neg hl, if_neg (fun z => h8 (of_decide_eq_true z.2))]
  rfl
theorem it_1 (hw : wst t n p = 1) (hl : ¬ pre t n (Wl 1) p < (Wl 1).length) : itC t n G p k x = nuS t n (p + 6) (rng 0 1) (fun v q => k (setF G 0 v) q) x := by
  unfold itC kwC
  rw [hw, if_neg hl, if_neg (fun z => absurd z.1 (by decide))]
  rfl
theorem it_2 (hw : wst t n p = 2) (hl : ¬ pre t n (Wl 2) p < (Wl 2).length) : itC t n G p k x = nuS t n (p + 3) (rng 1 9) (fun v q => k (setF G 1 v) q) x := by
  unfold itC kwC
  rw [hw, if_neg hl, if_neg (fun z => absurd z.1 (by decide))]
  rfl
theorem it_3 (hw : wst t n p = 3) (hl : ¬ pre t n (Wl 3) p < (Wl 3).length) : itC t n G p k x = nuS t n (p + 4) (hsB G) (fun v q => nuS t n q (fun v' => hsB G v' && !decide (v' = v)) (fun v' q' => k (gsh G v.toNatClampNeg v'.toNatClampNeg) q') x) x := by
  unfold itC kwC
  rw [hw, if_neg hl, if_neg (fun z => absurd z.1 (by decide))]
  rfl
theorem it_4 (hw : wst t n p = 4) (hl : ¬ pre t n (Wl 4) p < (Wl 4).length) : itC t n G p k x = nuS t n (p + 4) (hsB G) (fun v q => k (gdr G v.toNatClampNeg) q) x := by
  unfold itC kwC
  rw [hw, if_neg hl, if_neg (fun z => absurd z.1 (by decide))]
  rfl
end ItE
theorem rn6 : ∀ b, b < 100 → rng 0 6 (nI b) = true → b ≤ 6 := by decide
theorem rn9 : ∀ b, b < 100 → rng 0 9 (nI b) = true → b ≤ 9 := by decide
theorem rn20 : ∀ b, b < 100 → rng 0 20 (nI b) = true → b ≤ 20 := by decide
theorem rn1 : ∀ b, b < 100 → rng 0 1 (nI b) = true → b ≤ 1 := by decide
theorem rn19 : ∀ b, b < 100 → rng 1 9 (nI b) = true → 1 ≤ b ∧ b ≤ 9 := by decide
section RdI
variable {δb δ : XSh} {σb σ : XSt} {σm : MSt} {rd g o k n s w N p a : Nat} {t : Nat → Int32} {G : Gd} {K0 : XSh → XSt → Prop} {X : Nat → XSh → XSt → Prop} {R : Type} {kk : Gd → Nat → R} {xx : Nat → R}
theorem RD.rc (h : RD δb σb rd g o w N G p a δ σ) : RC G δ σ g := h.2.2.2.2.2.2.2.1
theorem RD.gw (h : RD δb σb rd g o w N G p a δ σ) : gW G := h.2.2.2.2.2.2.2.2.1
theorem RD.gE (h : RD δb σb rd g o w N G p a δ σ) : σ.2.2 12 rd 1 = some g := h.2.2.2.2.1
theorem RD.aE (h : RD δb σb rd g o w N G p a δ σ) : σ.1 12 rd 3 = nI a := h.2.2.2.2.2.2.1
theorem xq_item (hB : BA δb σb σm rd g o k n s t) (h : RD δb σb rd g o w N G p a δ σ) (hp : p ≤ n) (hK : ∀ G' p' a' δ' σ', itC t n G p kk xx = kk G' p' → p ≤ p' → p' ≤ n → RD δb σb rd g o w N G' p' a' δ' σ' → K0 δ' σ') (hX : ∀ e, itC t n G p kk xx = xx e → ∀ q δ' σ', FL δb σb e δ' σ' q → X q δ' σ') : xw_Rd_item K0 X rd δ σ := by
  have hW := h.gw
  have hn := hW.1
  unfold xw_Rd_item
  refine xq_sees hB h hp (bI_if (fun z1 => ?_) (fun z1 => ?_))
  · refine xq_sees hB h hp (bI_if (fun z2 => ?_) (fun z2 => ?_))
    · refine xq_sees hB h hp (bI_if (fun z3 => ?_) (fun z3 => ?_))
      · -- draw
        have hw : wst t n p = 4 := by unfold wst; rw [z1, z2, z3]; rfl
        refine xq_word (l := [100, 114, 97, 119]) hB rfl rfl (by decide) hp h (fun q σ8 r8 l8 => ⟨g, r8.gE, ?_⟩) (fun q => hX _ (it_x hw q))
        have E := it_4 (G := G) (k := kk) (x := xx) hw (by show ¬ pre t n [100, 114, 97, 119] p < 4; rw [q]; decide)
        refine xq_house (fun _ => true) (fun v => by rw [Bool.and_true]) hB r8 l8 (fun v p' b e _ b1 b2 ev h1 h2 σ' r' => ?_) (fun e he => hX e (E.trans he))
        rintro σ17 rfl
        subst ev
        have e := E.trans (e rfl)
        have b32 : b < 2 ^ 31 := by omega
        rw [nI_clamp b32] at e
        rw [r8.rc.2.2.2.1]
        refine hK (gdr G b) p' _ δ _ e (by have : p + 4 ≤ p' := h1; omega) h2 (r'.gr hB (r'.rc.cur ?_) (Kp.tI ig6) hW.cur (Nat.le_refl _) (fun _ _ => rfl))
        have := bm_set (p := gC G) hn b1 true
        rw [if_pos rfl] at this
        exact this
      · -- far
        have hw : wst t n p = 2 := by unfold wst; rw [z1, z2, z3]; rfl
        refine xq_word (l := [102, 97, 114]) hB rfl rfl (by decide) hp h (fun q σ8 r8 l8 => ⟨g, r8.gE, ?_⟩) (fun q => hX _ (it_x hw q))
        have E := it_2 (G := G) (k := kk) (x := xx) hw (by show ¬ pre t n [102, 97, 114] p < 3; rw [q]; decide)
        refine xq_num (fun _ => true) (fun v => by rw [Bool.and_true]) hB r8 l8 (fun v p' b e _ rv b1 ev h1 h2 σ' r' => ?_) (fun e he => hX e (E.trans he))
        rintro σ17 rfl
        rw [ev] at rv
        have b9 := rn19 b b1 rv
        exact hK (setF G 1 v) p' _ δ _ (E.trans (e rfl)) (by have : p + 3 ≤ p' := h1; omega) h2 (r'.gr hB r'.rc.far (Kp.tI ig6) (hW.far ⟨b, b9.1, b9.2, ev⟩) (Nat.le_refl _) (fun _ _ => rfl))
    · -- s
      have pn : p + 1 ≤ n := (tcB_lt z2).1
      refine xq_must hB h hp (fun _ σ50 r50 => ?_) (fun y => by rw [z2] at y; cases y)
      refine xq_sees hB r50 pn (bI_if (fun z4 => ?_) (fun z4 => ?_))
      · -- shut
        have hw : wst t n p = 3 := by unfold wst; rw [z1, z2, z4]; rfl
        have ep : pre t n (Wl 3) p = pre t n [104, 117, 116] (p + 1) + 1 := by
          show (if tcB t n 115 p = true then _ else _) = _
          rw [if_pos z2]
        refine xq_word (l := [104, 117, 116]) hB rfl rfl (by decide) pn r50 (fun q σ8 r8 l8 => ?_) (fun q => hX _ ?_)
        · have r8 : RD δb σb rd g o w N G (p + 4) a δ σ8 := r8
          have E := it_3 (G := G) (k := kk) (x := xx) hw (by rw [ep, q]; decide)
          refine xq_house (fun _ => true) (fun v => by rw [Bool.and_true]) hB r8 l8 (fun v p' b e _ b1 b2 ev h1 h2 σ' r' => ?_) (fun e he => hX e (E.trans he))
          have E := E.trans (e rfl)
          refine xq_house (fun v' => !decide (v' = v)) (fun v' => rfl) hB r' h2 (fun v' p'' c e e0 c1 c2 ev' h1' h2' σ'' r'' => ?_) (fun e he => hX e (E.trans he))
          subst ev
          subst ev'
          have b32 : b < 2 ^ 31 := by omega
          have c32 : c < 2 ^ 31 := by omega
          have c8 : c < 8 := by omega
          unfold xw_Rd_item_108
          refine ⟨fun y => xq_room (b := false) r'' (fun y => by cases y) (fun _ => hX _ (E.trans (e0 ?_))) r''.aE, fun y => xq_room (b := true) r'' (fun _ => ⟨g, r''.gE, pin c8, pin c8, ?_⟩) (fun y => by cases y) r''.aE⟩
          · rw [y, decide_eq_true rfl]; rfl
          · have e := E.trans (e (by rw [decide_eq_false (fun z => y z.symm)]; rfl))
            rw [nI_clamp b32, nI_clamp c32] at e
            rintro σ7 rfl
            rw [pcl c8, (r''.rc.2.2.2.2.2.2 c c1).2.1]
            refine hK (gsh G b c) p'' _ δ _ e (by have : p + 4 ≤ p' := h1; omega) h2' (r''.gr hB (r''.rc.shu (fun t a ht ha ne => if_neg (fun z => ne z.2)) ?_) (Kp.tI ig10) hW.shu (Nat.le_refl _) (fun _ _ => rfl))
            have := bm_set (p := fun a => gS G a c) hn b1 true
            rw [if_pos rfl] at this
            rw [this]
            exact bm_congr (fun i hi => by by_cases q : i = b <;> simp [q])
        · rw [it_x hw (by rw [ep]; show _ < 4; have : (3 : Nat) = [(104 : Int32), 117, 116].length := rfl; omega), ep]
          rw [show p + (pre t n [104, 117, 116] (p + 1) + 1) = p + 1 + pre t n [104, 117, 116] (p + 1) by omega]
      · -- summer
        have hw : wst t n p = 1 := by unfold wst; rw [z1, z2, z4]; rfl
        have ep : pre t n (Wl 1) p = pre t n [117, 109, 109, 101, 114] (p + 1) + 1 := by
          show (if tcB t n 115 p = true then _ else _) = _
          rw [if_pos z2]
        refine xq_word (l := [117, 109, 109, 101, 114]) hB rfl rfl (by decide) pn r50 (fun q σ8 r8 l8 => ⟨g, r8.gE, ?_⟩) (fun q => hX _ ?_)
        · have r8 : RD δb σb rd g o w N G (p + 6) a δ σ8 := r8
          have E := it_1 (G := G) (k := kk) (x := xx) hw (by rw [ep, q]; decide)
          refine xq_num (fun _ => true) (fun v => by rw [Bool.and_true]) hB r8 l8 (fun v p' b e _ rv b1 ev h1 h2 σ' r' => ?_) (fun e he => hX e (E.trans he))
          rw [ev] at rv
          have b9 := rn1 b b1 rv
          have hv : v = 0 ∨ v = 1 := by
            rcases (by omega : b = 0 ∨ b = 1) with q | q
            · left; rw [ev, q]; rfl
            · right; rw [ev, q]; rfl
          have fin : xw_Rd_item_77 K0 X rd v g δ σ' := by
            refine ⟨hv, ?_⟩
            rintro σ17 rfl
            exact hK (setF G 0 v) p' _ δ _ (E.trans (e rfl)) (by have : p + 6 ≤ p' := h1; omega) h2 (r'.gr hB r'.rc.sum (Kp.tI ig6) (hW.sum hv) (Nat.le_refl _) (fun _ _ => rfl))
          refine ⟨fun y => ?_, fun y => ?_⟩
          · rcases hv with q | q
            · rw [q] at fin; exact fin
            · exact absurd q y
          · rw [y] at fin; exact fin
        · rw [it_x hw (by rw [ep]; show _ < 6; have : (5 : Nat) = [(117 : Int32), 109, 109, 101, 114].length := rfl; omega), ep]
          rw [show p + (pre t n [117, 109, 109, 101, 114] (p + 1) + 1) = p + 1 + pre t n [117, 109, 109, 101, 114] (p + 1) by omega]
  · -- thing
    have hw : wst t n p = 0 := by unfold wst; rw [z1]; rfl
    refine xq_word (l := [116, 104, 105, 110, 103]) hB rfl rfl (by decide) hp h (fun q σ8 r8 l8 => ⟨g, r8.gE, ?_⟩) (fun q => hX _ (it_x hw q))
    have hl : ¬ pre t n (Wl 0) p < (Wl 0).length := by show ¬ pre t n [116, 104, 105, 110, 103] p < 5; rw [q]; decide
    rw [r8.rc.1]
    unfold xw_Rd_thing_18
    refine ⟨fun c => ?_, fun c => ?_⟩
    · have e8 : gN G = 8 := by
        have := (nI_leI (a := 8) (by decide) (by omega)).mp c
        omega
      exact xq_room (b := false) r8 (fun y => by cases y) (fun _ => hX p (it_f hw hl e8)) h.2.2.2.2.2.1
    · have n8 : gN G < 8 := by
        rcases Nat.lt_or_ge (gN G) 8 with q | q
        · exact q
        · exact absurd (nI_le (a := 8) q (by omega)) c
      refine xq_room (b := true) (e := p) r8 (fun _ => ?_) (fun y => by cases y) h.2.2.2.2.2.1
      have E := it_0 (G := G) (k := kk) (x := xx) hw hl (by omega)
      refine xq_num (fun _ => true) (fun v => by rw [Bool.and_true]) hB r8 l8 (fun v0 p0 b0 e0 _ rv0 bb0 ev0 h01 h02 σ0 r0 => ?_) (fun e he => hX e (E.trans he))
      have E := E.trans (e0 rfl)
      refine xq_num (fun _ => true) (fun v => by rw [Bool.and_true]) hB r0 h02 (fun v1 p1 b1 e1 _ rv1 bb1 ev1 h11 h12 σ1 r1 => ?_) (fun e he => hX e (E.trans he))
      have E := E.trans (e1 rfl)
      refine xq_num (fun v => decide (atI G v1 v = -1)) (fun v => rfl) hB r1 h12 (fun v2 p2 b2 e2 f2 rv2 bb2 ev2 h21 h22 σ2 r2 => ⟨g, r2.gE, xp_isFree r2.rc hn (xq_room r2 (fun y => ?_) (fun y => hX _ (E.trans (f2 y))) r2.aE)⟩) (fun e he => hX e (E.trans he))
      have E := E.trans (e2 y)
      refine xq_num (fun _ => true) (fun v => by rw [Bool.and_true]) hB r2 h22 (fun v3 p3 b3 e3 _ rv3 bb3 ev3 h31 h32 σ3 r3 => ⟨g, r3.gE, ?_⟩) (fun e he => hX e (E.trans he))
      have E := E.trans (e3 rfl)
      refine xq_num (fun _ => true) (fun v => by rw [Bool.and_true]) hB r3 h32 (fun v4 p4 b4 e4 _ rv4 bb4 ev4 h41 h42 σ4 r4 => ?_) (fun e he => hX e (E.trans he))
      have E := E.trans (e4 rfl)
      subst ev0
      subst ev1
      subst ev2
      subst ev3
      subst ev4
      have c0 := rn6 b0 bb0 rv0
      have c1 := rn9 b1 bb1 rv1
      have c2 := rn9 b2 bb2 rv2
      have c3 := rn20 b3 bb3 rv3
      have c4 := rn9 b4 bb4 rv4
      have b32 : b0 < 2 ^ 31 := by omega
      rw [nI_clamp b32] at E
      refine xp_add r4.rc r4.2.2.1 n8 c0 (fun δ5 σ5 c5 k5 e5 => hK _ p4 _ δ5 σ5 E (by have : p + 5 ≤ p0 := h01; omega) h42 (r4.gr hB c5 k5 (hW.add n8 c0 c1 c2 c3 c4 (of_decide_eq_true y)) (Nat.le_succ _) e5))
end RdI
section RdJ
variable {δb : XSh} {σb : XSt} {σm : MSt} {rd g o k n s w N : Nat} {t : Nat → Int32} {K1 : Int32 → XSh → XSt → Prop} {X : Nat → XSh → XSt → Prop} {R : Type} {kk : Gd → Int32 → R} {xx : Nat → R}
theorem xq_items6 (hB : BA δb σb σm rd g o k n s t) : ∀ (f : Nat) (G : Gd) (p a : Nat) (c : Int32) (δ : XSh) (σ : XSt), RD δb σb rd g o w N G p a δ σ → p ≤ n → n - p ≤ f → (∀ G' c' p' a' δ' σ', itsC t n kk xx f G p c = kk G' c' → RD δb σb rd g o w N G' p' a' δ' σ' → K1 c' δ' σ') → (∀ e, itsC t n kk xx f G p c = xx e → ∀ q δ' σ', FL δb σb e δ' σ' q → X q δ' σ') → xw_Rd_items_6 K1 X rd (f + 1) c δ σ
  | 0, G, p, a, c, δ, σ, h, hp, hf, hK, hX => by
    show xw_Rd_items_6_b K1 X rd _ c δ σ
    exact xq_ends hB h hp (fun e => br_n (by decide) (hK G c p a δ σ rfl h)) (fun e => absurd (by omega) e)
  | f + 1, G, p, a, c, δ, σ, h, hp, hf, hK, hX => by
    show xw_Rd_items_6_b K1 X rd _ c δ σ
    refine xq_ends hB h hp (fun e => br_n (by decide) (hK G c p a δ σ (if_pos e) h)) (fun e => br_y rfl ?_)
    refine xq_must hB h hp (fun z σ4 r4 => ?_) (fun z => hX p ?_)
    · have hz := tcB_lt z
      have E : itsC t n kk xx (f + 1) G p c = itC t n G (p + 1) (fun G' p' => itsC t n kk xx f G' p' (c + 1)) xx := by
        show (if p = n then _ else _) = _
        rw [if_neg e, if_pos hz.2]
      exact xq_item hB r4 hz.1 (fun G' p' a' δ' σ' e' h1 h2 r' => xq_items6 hB f G' p' a' (c + 1) δ' σ' r' h2 (by omega) (fun G2 c2 p2 a2 δ2 σ2 e2 => hK G2 c2 p2 a2 δ2 σ2 (E.trans (e'.trans e2))) (fun e2 he => hX e2 (E.trans (e'.trans he)))) (fun e2 he => hX e2 (E.trans he))
    · show (if p = n then _ else if t p = 59 then _ else _) = _
      rw [if_neg e, if_neg (fun y => ?_)]
      unfold tcB at z
      rw [decide_eq_true (by omega : p < n), decide_eq_true y] at z
      cases z
theorem xq_items {G : Gd} {a : Nat} {δ : XSh} {σ : XSt} (hB : BA δb σb σm rd g o k n s t) (h : RD δb σb rd g o w N G 0 a δ σ) (hK : ∀ G' c' p' a' δ' σ', itC t n G 0 (fun G' p' => itsC t n kk xx 160 G' p' 1) xx = kk G' c' → RD δb σb rd g o w N G' p' a' δ' σ' → K1 c' δ' σ') (hX : ∀ e, itC t n G 0 (fun G' p' => itsC t n kk xx 160 G' p' 1) xx = xx e → ∀ q δ' σ', FL δb σb e δ' σ' q → X q δ' σ') : xw_Rd_items K1 X rd δ σ := by
  have hn := hB.le
  exact xq_item hB h (Nat.zero_le _) (fun G' p' a' δ' σ' e' h1 h2 r' => ⟨161, by decide, xq_items6 hB 160 G' p' a' 1 δ' σ' r' h2 (by omega) (fun G2 c2 p2 a2 δ2 σ2 e2 => hK G2 c2 p2 a2 δ2 σ2 (e'.trans e2)) (fun e2 he => hX e2 (e'.trans he))⟩) (fun e2 he => hX e2 he)
end RdJ
