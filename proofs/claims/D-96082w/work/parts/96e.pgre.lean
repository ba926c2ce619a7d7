/-! ground: the model's items -/
section MdI
variable {σb u : MSt} {s n p : Nat} {t : Nat → Int32} {G : Gd}
theorem MG.gr {G' : Gd} {u' : MSt} (h : MG σb s n G p u) (hR : RM G' u') (hm : Mg u u') (e2 : u'.1 22 = u.1 22) (e3 : u'.1 23 = u.1 23) (e4 : u'.1 24 = u.1 24) (e7 : u'.2.1 27 = u.2.1 27) : MG σb s n G' p u' := ⟨hR, e2.trans h.2.1, e3.trans h.2.2.1, e4.trans h.2.2.2.1, h.2.2.2.2.1.tr hm, e7.trans h.2.2.2.2.2⟩
theorem rng0 {hi : Int32} {b : Nat} (hb : b < 100) : rng 0 hi (nI b) = !decide (hi < nI b) := by
  unfold rng
  rw [decide_eq_false (nI_pos (by omega))]; rfl
variable {K : Int32 → Prop} {b : Nat}
theorem lt_K {hi v : Int32} (hK : K (bI (!decide (hi < v)))) : (hi < v → K 0) ∧ (¬ hi < v → K 1) := ⟨fun c => by rw [decide_eq_true c] at hK; exact hK, fun c => by rw [decide_eq_false c] at hK; exact hK⟩
theorem so_00 (hb : b < 100) (hv : u.1 25 = nI b) (hK : K (bI (rng 0 6 (nI b)))) : mw_isSo u K 0 0 := by
  refine ⟨fun z => absurd z (by decide), fun _ => ⟨fun z => absurd rfl z, fun _ => ?_⟩, fun z => absurd z (by decide), fun z => absurd z (by decide)⟩
  rw [hv]; rw [rng0 hb] at hK; exact lt_K hK
theorem so_01 (hb : b < 100) (hv : u.1 25 = nI b) (hK : K (bI (rng 0 9 (nI b)))) : mw_isSo u K 0 1 := by
  refine ⟨fun z => absurd z (by decide), fun _ => ⟨fun _ => ⟨fun _ => ?_, fun z => absurd z (by decide)⟩, fun z => absurd z (by decide)⟩, fun z => absurd z (by decide), fun z => absurd z (by decide)⟩
  rw [hv]; rw [rng0 hb] at hK
  have := lt_K hK
  exact ⟨this.1, fun c => ⟨fun _ => this.2 c, fun z => absurd z (by decide)⟩⟩
theorem so_04 (hb : b < 100) (hv : u.1 25 = nI b) (hK : K (bI (rng 0 9 (nI b)))) : mw_isSo u K 0 4 := by
  refine ⟨fun z => absurd z (by decide), fun _ => ⟨fun _ => ⟨fun _ => ?_, fun z => absurd z (by decide)⟩, fun z => absurd z (by decide)⟩, fun z => absurd z (by decide), fun z => absurd z (by decide)⟩
  rw [hv]; rw [rng0 hb] at hK
  have := lt_K hK
  exact ⟨this.1, fun c => ⟨fun _ => this.2 c, fun z => absurd z (by decide)⟩⟩
theorem so_03 (hb : b < 100) (hv : u.1 25 = nI b) (hK : K (bI (rng 0 20 (nI b)))) : mw_isSo u K 0 3 := by
  refine ⟨fun z => absurd z (by decide), fun _ => ⟨fun _ => ⟨fun z => absurd rfl z, fun _ => ?_⟩, fun z => absurd z (by decide)⟩, fun z => absurd z (by decide), fun z => absurd z (by decide)⟩
  rw [hv]; rw [rng0 hb] at hK; exact lt_K hK
theorem so_02 {v1 : Int32} (hR : RM G u) (hn : gN G ≤ 8) (hb : b < 100) (hv : u.1 25 = nI b) (h21 : u.2.1 21 1 = v1) (hK : K (bI (rng 0 9 (nI b) && decide (atI G v1 (nI b) = -1)))) : mw_isSo u K 0 2 := by
  refine ⟨fun z => absurd z (by decide), fun _ => ⟨fun _ => ⟨fun _ => ?_, fun z => absurd z (by decide)⟩, fun z => absurd z (by decide)⟩, fun z => absurd z (by decide), fun z => absurd z (by decide)⟩
  rw [hv]; rw [rng0 hb] at hK
  refine ⟨fun c => ?_, fun c => ⟨fun z => absurd rfl z, fun _ => ⟨vp_in_nI (n := 1) (by decide) (by decide), ?_⟩⟩⟩
  · rw [decide_eq_true c] at hK; exact hK
  · rw [decide_eq_false c] at hK
    have e1 : u.2.1 21 (1 : Int32).toNatClampNeg = v1 := h21
    rw [e1]
    refine mp_at hR hn ⟨fun d => ?_, fun d => ?_⟩
    · rw [decide_eq_false d] at hK; exact hK
    · rw [decide_eq_true d] at hK; exact hK
theorem so_1 (hb : b < 100) (hv : u.1 25 = nI b) (hK : K (bI (rng 0 1 (nI b)))) : mw_isSo u K 1 0 := by
  refine ⟨fun z => absurd z (by decide), fun z => absurd z (by decide), fun _ => ?_, fun z => absurd z (by decide)⟩
  rw [hv]; rw [rng0 hb] at hK; exact lt_K hK
theorem so_2 (hv : u.1 25 = nI b) (hK : K (bI (rng 1 9 (nI b)))) : mw_isSo u K 2 0 := by
  refine ⟨fun z => absurd z (by decide), fun z => absurd z (by decide), fun z => absurd z (by decide), fun _ => ?_⟩
  rw [hv]
  unfold rng at hK
  refine ⟨fun c => ?_, fun c => ?_⟩
  · rw [decide_eq_true c] at hK; exact hK
  · rw [decide_eq_false c] at hK; exact lt_K hK
theorem so_h {w j : Nat} (ex : Bool) (hw : w = 3 ∨ w = 4) (hj : j ≤ 4) (hR : RM G u) (hU : gU G) (hb : b < 100) (hv : u.1 25 = nI b) (hex : (j = 0 → ex = true) ∧ (¬ j = 0 → ex = !decide (nI b = u.2.1 21 0))) (hK : K (bI (hsB G (nI b) && ex))) : mw_isSo u K (nI w) (nI j) := by
  have hw2 : ∀ w, w = 3 ∨ w = 4 → ¬ nI w = 0 ∧ ¬ nI w = 1 ∧ ¬ nI w = 2 := by
    rintro w (q | q) <;> subst q <;> decide
  obtain ⟨w0, w1, w2⟩ := hw2 w hw
  have ej : (nI j = 0) = (j = 0) := kq (by omega) (by decide) rfl
  refine ⟨fun _ => ?_, fun z => absurd z w0, fun z => absurd z w1, fun z => absurd z w2⟩
  rw [hv]
  refine mp_isThing hR hU.1 (fun c => br_t rfl ?_) (fun i hi e => br_f (by decide) ?_)
  · have : hsB G (nI b) = false := by
      cases q : hsB G (nI b) with
      | false => rfl
      | true => exact absurd ⟨b, ((hsB_nn (by omega)).mp q).1, rfl⟩ c
    rw [this] at hK; exact hK
  · have eb : b = i := (nI_eq (by omega) (by have := hU.1; omega)).mp e
    subst eb
    have eh : hsB G (nI b) = hs G b := by
      unfold hsB
      rw [nI_clamp (by omega), decide_eq_true hi]; rfl
    rw [eh] at hK
    refine mp_isHouse hR hU.1 hi (hU.2.2.1 b hi).1 (bI_if (fun q => ?_) (fun q => ?_))
    · rw [q] at hK; exact hK
    · rw [q] at hK
      rw [ej]
      refine ⟨fun c => ?_, fun c => ⟨vp_in_nI (n := 0) (by decide) (by decide), fun d => ?_, fun d => ?_⟩⟩
      · rw [hex.1 c] at hK; exact hK
      · have d : nI b = u.2.1 21 0 := d
        rw [hex.2 c, decide_eq_true d] at hK; exact hK
      · have d : ¬ nI b = u.2.1 21 0 := d
        rw [hex.2 c, decide_eq_false d] at hK; exact hK
end MdI
section MdK
variable {σb u : MSt} {s n p : Nat} {t : Nat → Int32} {G : Gd} {K : Int32 → MSt → Prop} {R : Type} {kk : Gd → Nat → R} {xx : Nat → R}
theorem mq_74_1 (hB : MB σb s n t) (hW : gW G) (z : tcB t n 32 p = true) (h : MG σb s n G (p + 1) u) (hK : ∀ G' p', nuS t n p (rng 0 1) (fun v q => kk (setF G 0 v) q) xx = kk G' p' → gW G' → p < p' ∧ p' ≤ n → ∀ u', MG σb s n G' p' u' → K 1 u') (hX : ∀ e, nuS t n p (rng 0 1) (fun v q => kk (setF G 0 v) q) xx = xx e → ∀ u', MF σb e u' → K 0 u') : mw_item_74 K (nI 1) u := by
  refine ⟨fun _ => ⟨fun _ => ⟨2, ?_⟩, fun z => absurd z (by decide)⟩, fun z => absurd z (by decide)⟩
  refine mq_n0 (c := 1) (by decide) (by decide) (rng 0 1) hB z h (fun u' m' v' g' d K' hK' => ?_) (fun v p' b e sv hb ev hp' u' m' g' => ?_) hX
  · obtain ⟨b, hb, eb⟩ := vl_nn d
    rw [eb] at v' hK'
    exact so_1 (by omega) v' hK'
  · show mw_item_96_b K _ (nI 1) (nI 1) 1 u'
    refine br_t (by decide) ⟨fun z => absurd z (by decide), fun z => absurd z (by decide), fun _ => ⟨vp_in_nI (n := 0) (by decide) (by decide), ?_⟩, fun z => absurd z (by decide), fun z => absurd z (by decide)⟩
    intro σ14 e14
    have e0 : u'.2.1 21 (0 : Int32).toNatClampNeg = v := by
      rw [g']; exact pk_us
    rw [e0] at e14
    have hv : v = 0 ∨ v = 1 := by
      rw [ev] at sv
      have := rn1 b hb sv
      rcases (by omega : b = 0 ∨ b = 1) with q | q
      · left; rw [ev, q]; rfl
      · right; rw [ev, q]; rfl
    refine hK (setF G 0 v) p' e (hW.sum hv) hp' _ ?_
    rw [e14]
    exact m'.gr (m'.1.fld (a := 0) (Or.inl rfl)) (Mg.sF (by decide)) (sF_n _ _ (by decide)) (sF_n _ _ (by decide)) (sF_n _ _ (by decide)) rfl
theorem mq_74_2 (hB : MB σb s n t) (hW : gW G) (z : tcB t n 32 p = true) (h : MG σb s n G (p + 1) u) (hK : ∀ G' p', nuS t n p (rng 1 9) (fun v q => kk (setF G 1 v) q) xx = kk G' p' → gW G' → p < p' ∧ p' ≤ n → ∀ u', MG σb s n G' p' u' → K 1 u') (hX : ∀ e, nuS t n p (rng 1 9) (fun v q => kk (setF G 1 v) q) xx = xx e → ∀ u', MF σb e u' → K 0 u') : mw_item_74 K (nI 2) u := by
  refine ⟨fun _ => ⟨fun _ => ⟨2, ?_⟩, fun z => absurd z (by decide)⟩, fun z => absurd z (by decide)⟩
  refine mq_n0 (c := 1) (by decide) (by decide) (rng 1 9) hB z h (fun u' m' v' g' d K' hK' => ?_) (fun v p' b e sv hb ev hp' u' m' g' => ?_) hX
  · obtain ⟨b, hb, eb⟩ := vl_nn d
    rw [eb] at v' hK'
    exact so_2 v' hK'
  · show mw_item_96_b K _ (nI 2) (nI 1) 1 u'
    refine br_t (by decide) ⟨fun z => absurd z (by decide), fun z => absurd z (by decide), fun z => absurd z (by decide), fun _ => ⟨vp_in_nI (n := 0) (by decide) (by decide), ?_⟩, fun z => absurd z (by decide)⟩
    intro σ14 e14
    have e0 : u'.2.1 21 (0 : Int32).toNatClampNeg = v := by
      rw [g']; exact pk_us
    rw [e0] at e14
    rw [ev] at sv
    have b9 := rn19 b hb sv
    refine hK (setF G 1 v) p' e (hW.far ⟨b, b9.1, b9.2, ev⟩) hp' _ ?_
    rw [e14]
    exact m'.gr (m'.1.fld (a := 1) (Or.inr (Or.inl rfl))) (Mg.sF (by decide)) (sF_n _ _ (by decide)) (sF_n _ _ (by decide)) (sF_n _ _ (by decide)) rfl
theorem mq_74_4 (hB : MB σb s n t) (hW : gW G) (z : tcB t n 32 p = true) (h : MG σb s n G (p + 1) u) (hK : ∀ G' p', nuS t n p (hsB G) (fun v q => kk (gdr G v.toNatClampNeg) q) xx = kk G' p' → gW G' → p < p' ∧ p' ≤ n → ∀ u', MG σb s n G' p' u' → K 1 u') (hX : ∀ e, nuS t n p (hsB G) (fun v q => kk (gdr G v.toNatClampNeg) q) xx = xx e → ∀ u', MF σb e u' → K 0 u') : mw_item_74 K (nI 4) u := by
  have hn := hW.1
  refine ⟨fun _ => ⟨fun _ => ⟨2, ?_⟩, fun z => absurd z (by decide)⟩, fun z => absurd z (by decide)⟩
  refine mq_n0 (c := 1) (by decide) (by decide) (hsB G) hB z h (fun u' m' v' g' d K' hK' => ?_) (fun v p' b e sv hb ev hp' u' m' g' => ?_) hX
  · obtain ⟨b, hb, eb⟩ := vl_nn d
    rw [eb] at v' hK'
    exact so_h (w := 4) (j := 0) true (Or.inr rfl) (by decide) m'.1 hW.u (by omega) v' ⟨fun _ => rfl, fun z => absurd rfl z⟩ (by rw [Bool.and_true]; exact hK')
  · show mw_item_96_b K _ (nI 4) (nI 1) 1 u'
    subst ev
    obtain ⟨b1, b2⟩ := (hsB_nn (by omega)).mp sv
    have b8 : b < 8 := by omega
    have e0 : u'.2.1 21 (0 : Int32).toNatClampNeg = nI b := by
      rw [g']; exact pk_us
    refine br_t (by decide) ⟨fun _ => ⟨vp_in_nI (n := 0) (by decide) (by decide), ?_⟩, fun z => absurd z (by decide), fun z => absurd z (by decide), fun z => absurd z (by decide), fun z => absurd z (by decide)⟩
    rw [e0, pcl b8]
    refine ⟨pin b8, ?_⟩
    intro σ5 e5
    have b32 : b < 2 ^ 31 := by omega
    rw [nI_clamp b32] at e
    refine hK (gdr G b) p' e hW.cur hp' _ ?_
    rw [e5]
    exact m'.gr (m'.1.cur (i := b) (fun t _ ne => if_neg ne) (by rw [if_pos rfl]; rfl)) (Mg.sI (by decide)) rfl rfl rfl (sI_n _ _ _ (by decide))
theorem mq_74_3 (hB : MB σb s n t) (hW : gW G) (z : tcB t n 32 p = true) (h : MG σb s n G (p + 1) u) (hK : ∀ G' p', nuS t n p (hsB G) (fun v q => nuS t n q (fun v' => hsB G v' && !decide (v' = v)) (fun v' q' => kk (gsh G v.toNatClampNeg v'.toNatClampNeg) q') xx) xx = kk G' p' → gW G' → p < p' ∧ p' ≤ n → ∀ u', MG σb s n G' p' u' → K 1 u') (hX : ∀ e, nuS t n p (hsB G) (fun v q => nuS t n q (fun v' => hsB G v' && !decide (v' = v)) (fun v' q' => kk (gsh G v.toNatClampNeg v'.toNatClampNeg) q') xx) xx = xx e → ∀ u', MF σb e u' → K 0 u') : mw_item_74 K (nI 3) u := by
  have hn := hW.1
  refine ⟨fun _ => ⟨fun z => absurd rfl z, fun _ => ⟨3, ?_⟩⟩, fun z => absurd z (by decide)⟩
  refine mq_n0 (c := 2) (by decide) (by decide) (hsB G) hB z h (fun u' m' v' g' d K' hK' => ?_) (fun v p' b E sv hb ev hp' u' m' g' => ?_) hX
  · obtain ⟨b, hb, eb⟩ := vl_nn d
    rw [eb] at v' hK'
    exact so_h (w := 3) (j := 0) true (Or.inl rfl) (by decide) m'.1 hW.u (by omega) v' ⟨fun _ => rfl, fun z => absurd rfl z⟩ (by rw [Bool.and_true]; exact hK')
  · have g0 : u'.2.1 21 0 = v := by rw [g']; exact pk_us
    refine mq_nx (c := 2) (j := 1) (by decide) (by decide) (by decide) (fun v' => hsB G v' && !decide (v' = v)) hB m' hp'.2 (fun u2 m2 v2 g2 d K' hK' => ?_) (fun v' p2 b' e sv' hb' ev' hp2 u2 m2 g2 => ?_) (fun e he => hX e (E.trans he))
    · obtain ⟨b, hb, eb⟩ := vl_nn d
      rw [eb] at v2 hK'
      refine so_h (w := 3) (j := 1) _ (Or.inl rfl) (by decide) m2.1 hW.u (by omega) v2 ⟨fun z => absurd z (by decide), fun _ => ?_⟩ hK'
      rw [g2, g0]
    · have E := E.trans e
      subst ev
      subst ev'
      simp only [Bool.and_eq_true] at sv'
      obtain ⟨b1, b2⟩ := (hsB_nn (by omega)).mp sv
      obtain ⟨c1, c2⟩ := (hsB_nn (by omega)).mp sv'.1
      have b8 : b < 8 := by omega
      have c8 : b' < 8 := by omega
      have e0 : u2.2.1 21 (0 : Int32).toNatClampNeg = nI b := by
        show u2.2.1 21 0 = nI b
        rw [g2, pk_un (by decide)]; exact g0
      have e1 : u2.2.1 21 (1 : Int32).toNatClampNeg = nI b' := by
        rw [g2]; exact pk_us
      show mw_item_96_b K _ (nI 3) (nI 2) (nI 2) u2
      refine br_t (by decide) ⟨fun z => absurd z (by decide), fun z => absurd z (by decide), fun z => absurd z (by decide), fun z => absurd z (by decide), fun _ => ⟨vp_in_nI (n := 0) (by decide) (by decide), ?_⟩⟩
      rw [e0, e1, pcl b8, (m2.1.2.2.2.2.2 b b1).2.2.2.2.2.2]
      refine ⟨pin b8, vp_in_nI (n := 1) (by decide) (by decide), pin b8, ?_⟩
      intro σ21 e21
      have b32 : b < 2 ^ 31 := by omega
      have c32 : b' < 2 ^ 31 := by omega
      rw [nI_clamp b32, nI_clamp c32] at E
      refine hK (gsh G b b') p2 E hW.shu ⟨by omega, hp2.2⟩ _ ?_
      rw [e21]
      refine m2.gr (m2.1.shu (i := b) (fun t a _ _ ne => if_neg (fun z => ne z.1)) ?_) (Mg.sI (by decide)) rfl rfl rfl (sI_n _ _ _ (by decide))
      have := bm_set (p := gS G b) hn c1 true
      rw [if_pos rfl] at this
      refine this.trans (bm_congr (fun i hi => ?_))
      by_cases q : i = b' <;> simp [q]
theorem mq_74_0 (hB : MB σb s n t) (hW : gW G) (h8 : ¬ gN G = 8) (z : tcB t n 32 p = true) (h : MG σb s n G (p + 1) u) (hK : ∀ G' p', nuS t n p (rng 0 6) (fun v0 p0 => nuS t n p0 (rng 0 9) (fun v1 p1 => nuS t n p1 (fun v => rng 0 9 v && decide (atI G v1 v = -1)) (fun v2 p2 => nuS t n p2 (rng 0 20) (fun v3 p3 => nuS t n p3 (rng 0 9) (fun v4 p4 => kk (addG G v0.toNatClampNeg v1 v2 v3 v4) p4) xx) xx) xx) xx) xx = kk G' p' → gW G' → p < p' ∧ p' ≤ n → ∀ u', MG σb s n G' p' u' → K 1 u') (hX : ∀ e, nuS t n p (rng 0 6) (fun v0 p0 => nuS t n p0 (rng 0 9) (fun v1 p1 => nuS t n p1 (fun v => rng 0 9 v && decide (atI G v1 v = -1)) (fun v2 p2 => nuS t n p2 (rng 0 20) (fun v3 p3 => nuS t n p3 (rng 0 9) (fun v4 p4 => kk (addG G v0.toNatClampNeg v1 v2 v3 v4) p4) xx) xx) xx) xx) xx = xx e → ∀ u', MF σb e u' → K 0 u') : mw_item_74 K (nI 0) u := by
  have hn := hW.1
  refine ⟨fun z => absurd rfl z, fun _ => ⟨6, ?_⟩⟩
  refine mq_n0 (c := 5) (by decide) (by decide) (rng 0 6) hB z h (fun u' m' v' g' d K' hK' => ?_) (fun v0 p0 b0 E sv0 hb0 ev0 hp0 u0 m0 g0 => ?_) hX
  · obtain ⟨b, hb, eb⟩ := vl_nn d
    rw [eb] at v' hK'
    exact so_00 (by omega) v' hK'
  refine mq_nx (c := 5) (j := 1) (by decide) (by decide) (by decide) (rng 0 9) hB m0 hp0.2 (fun u' m' v' g' d K' hK' => ?_) (fun v1 p1 b1 e sv1 hb1 ev1 hp1 u1 m1 g1 => ?_) (fun e he => hX e (E.trans he))
  · obtain ⟨b, hb, eb⟩ := vl_nn d
    rw [eb] at v' hK'
    exact so_01 (by omega) v' hK'
  have E := E.trans e
  have t1 : u1.2.1 21 1 = v1 := by rw [g1]; exact pk_us
  refine mq_nx (c := 5) (j := 2) (by decide) (by decide) (by decide) (fun v => rng 0 9 v && decide (atI G v1 v = -1)) hB m1 hp1.2 (fun u' m' v' g' d K' hK' => ?_) (fun v2 p2 b2 e sv2 hb2 ev2 hp2 u2 m2 g2 => ?_) (fun e he => hX e (E.trans he))
  · obtain ⟨b, hb, eb⟩ := vl_nn d
    rw [eb] at v' hK'
    exact so_02 m'.1 hn (by omega) v' (by rw [g']; exact t1) hK'
  have E := E.trans e
  refine mq_nx (c := 5) (j := 3) (by decide) (by decide) (by decide) (rng 0 20) hB m2 hp2.2 (fun u' m' v' g' d K' hK' => ?_) (fun v3 p3 b3 e sv3 hb3 ev3 hp3 u3 m3 g3 => ?_) (fun e he => hX e (E.trans he))
  · obtain ⟨b, hb, eb⟩ := vl_nn d
    rw [eb] at v' hK'
    exact so_03 (by omega) v' hK'
  have E := E.trans e
  refine mq_nx (c := 5) (j := 4) (by decide) (by decide) (by decide) (rng 0 9) hB m3 hp3.2 (fun u' m' v' g' d K' hK' => ?_) (fun v4 p4 b4 e sv4 hb4 ev4 hp4 u4 m4 g4 => ?_) (fun e he => hX e (E.trans he))
  · obtain ⟨b, hb, eb⟩ := vl_nn d
    rw [eb] at v' hK'
    exact so_04 (by omega) v' hK'
  have E := E.trans e
  have s0 : u4.2.1 21 (0 : Int32).toNatClampNeg = v0 := by
    show u4.2.1 21 0 = v0
    rw [g4, pk_un (by decide), g3, pk_un (by decide), g2, pk_un (by decide), g1, pk_un (by decide), g0]; exact pk_us
  have s1 : u4.2.1 21 (1 : Int32).toNatClampNeg = v1 := by
    show u4.2.1 21 1 = v1
    rw [g4, pk_un (by decide), g3, pk_un (by decide), g2, pk_un (by decide)]; exact t1
  have s2 : u4.2.1 21 (2 : Int32).toNatClampNeg = v2 := by
    show u4.2.1 21 2 = v2
    rw [g4, pk_un (by decide), g3, pk_un (by decide), g2]; exact pk_us
  have s3 : u4.2.1 21 (3 : Int32).toNatClampNeg = v3 := by
    show u4.2.1 21 3 = v3
    rw [g4, pk_un (by decide), g3]; exact pk_us
  have s4 : u4.2.1 21 (4 : Int32).toNatClampNeg = v4 := by
    show u4.2.1 21 4 = v4
    rw [g4]; exact pk_us
  show mw_item_96_b K _ (nI 0) (nI 5) (nI 5) u4
  refine br_t (by decide) ⟨fun z => absurd z (by decide), fun _ => ⟨vp_in_nI (n := 0) (by decide) (by decide), vp_in_nI (n := 1) (by decide) (by decide), vp_in_nI (n := 2) (by decide) (by decide), vp_in_nI (n := 3) (by decide) (by decide), vp_in_nI (n := 4) (by decide) (by decide), ?_⟩, fun z => absurd z (by decide), fun z => absurd z (by decide), fun z => absurd z (by decide)⟩
  rw [s0, s1, s2, s3, s4]
  subst ev0
  subst ev1
  subst ev2
  subst ev3
  subst ev4
  simp only [Bool.and_eq_true, decide_eq_true_eq] at sv2
  have c0 := rn6 b0 hb0 sv0
  have c1 := rn9 b1 hb1 sv1
  have c2 := rn9 b2 hb2 sv2.1
  have c3 := rn20 b3 hb3 sv3
  have c4 := rn9 b4 hb4 sv4
  have b32 : b0 < 2 ^ 31 := by omega
  rw [nI_clamp b32] at E
  have n8 : gN G < 8 := by omega
  refine mp_adds8 m4.1 n8 (fun u5 r5 m5 _ _ f5 _ w5 => hK _ p4 E (hW.add n8 c0 c1 c2 c3 c4 sv2.2) ⟨by omega, hp4.2⟩ u5 ?_)
  exact m4.gr r5 m5 (f5 22 (by decide)) (f5 23 (by decide)) (f5 24 (by decide)) (w5 27 (by decide))
theorem mq_item2 (hB : MB σb s n t) (h : MG σb s n G p u) (hp : p ≤ n) (hW : gW G) (hK : ∀ G' p', itC t n G p kk xx = kk G' p' → gW G' → p < p' ∧ p' ≤ n → ∀ u', MG σb s n G' p' u' → K 1 u') (hX : ∀ e, itC t n G p kk xx = xx e → ∀ u', MF σb e u' → K 0 u') : ∀ (m i : Nat), i + m = 5 → (0 < i → ¬ (pre t n (Wl 0) p = (Wl 0).length ∧ gN G = 8)) → mw_item_2 K (m + 1) (nI i) u
  | 0, i, hi, hf => by
    have e : i = 5 := by omega
    subst e
    have hf := hf (by decide)
    have hn := hW.1
    show mw_item_2_b K _ _ u
    unfold mw_item_2_b
    obtain ⟨w, hw⟩ : ∃ w, wst t n p = w := ⟨_, rfl⟩
    have w5 : w < 5 := by rw [← hw]; exact wst_lt
    have wl := (wt4 w w5).2
    have ple := pre_le (t := t) (n := n) (Wl w) p
    have pa := pre_app (t := t) (n := n) (Wl w) p
    have pa : pre t n (Ws w) p = _ := pa
    refine br_t (by decide) (mq_word hB h hp (fun e u' m' g' => ?_) (fun e u' f' => br_y rfl (hX _ ?_ u' f')))
    · rw [hw] at e m' ⊢
      have full : ¬ pre t n (Wl w) p < (Wl w).length := by
        intro q
        rw [if_pos q] at pa
        omega
      rw [if_neg full] at pa
      have z : tcB t n 32 (p + (Wl w).length) = true := by
        cases q : tcB t n 32 (p + (Wl w).length) with
        | true => rfl
        | false =>
          rw [q, if_neg (by decide)] at pa
          omega
      rw [wl] at m'
      have m' : MG σb s n G (p + (Wl w).length + 1) u' := m'
      have go : mw_item_74 K (nI w) u' := by
        rcases (by omega : w = 0 ∨ w = 1 ∨ w = 2 ∨ w = 3 ∨ w = 4) with q | q | q | q | q <;> subst q
        · have h8 : ¬ gN G = 8 := fun y => hf ⟨by omega, y⟩
          have E := it_0 (G := G) (k := kk) (x := xx) hw full h8
          exact mq_74_0 hB hW h8 z m' (fun G' p' e g l => hK G' p' (E.trans e) g ⟨by omega, l.2⟩) (fun e he => hX e (E.trans he))
        · have E := it_1 (G := G) (k := kk) (x := xx) hw full
          exact mq_74_1 hB hW z m' (fun G' p' e g l => hK G' p' (E.trans e) g ⟨by omega, l.2⟩) (fun e he => hX e (E.trans he))
        · have E := it_2 (G := G) (k := kk) (x := xx) hw full
          exact mq_74_2 hB hW z m' (fun G' p' e g l => hK G' p' (E.trans e) g ⟨by omega, l.2⟩) (fun e he => hX e (E.trans he))
        · have E := it_3 (G := G) (k := kk) (x := xx) hw full
          exact mq_74_3 hB hW z m' (fun G' p' e g l => hK G' p' (E.trans e) g ⟨by omega, l.2⟩) (fun e he => hX e (E.trans he))
        · have E := it_4 (G := G) (k := kk) (x := xx) hw full
          exact mq_74_4 hB hW z m' (fun G' p' e g l => hK G' p' (E.trans e) g ⟨by omega, l.2⟩) (fun e he => hX e (E.trans he))
      refine br_n (nI_m1' (by omega)) ⟨fun _ => go, fun c => ⟨fun _ => go, fun d => ?_⟩⟩
      exfalso
      have w0 : w = 0 := (nI_eq (a := w) (b := 0) (by omega) (by decide)).mp c
      subst w0
      rw [m'.1.1] at d
      exact hf ⟨by omega, (nI_eq (a := gN G) (b := 8) (by omega) (by decide)).mp d⟩
    · rw [hw] at e ⊢
      by_cases q : pre t n (Wl w) p < (Wl w).length
      · rw [if_pos q] at pa
        rw [it_x hw q, pa]
      · rw [if_neg q] at pa
        have z : tcB t n 32 (p + (Wl w).length) = false := by
          cases y : tcB t n 32 (p + (Wl w).length) with
          | false => rfl
          | true =>
            rw [y, if_pos rfl] at pa
            omega
        rw [z, if_neg (by decide)] at pa
        rw [pa, Nat.add_zero]
        rcases (by omega : w = 0 ∨ w = 1 ∨ w = 2 ∨ w = 3 ∨ w = 4) with y | y | y | y | y <;> subst y
        · have h8 : ¬ gN G = 8 := fun y => hf ⟨by omega, y⟩
          exact (it_0 hw q h8).trans (nu_x0 z)
        · exact (it_1 hw q).trans (nu_x0 z)
        · exact (it_2 hw q).trans (nu_x0 z)
        · exact (it_3 hw q).trans (nu_x0 z)
        · exact (it_4 hw q).trans (nu_x0 z)
  | m + 1, i, hi, hf => by
    have hn := hW.1
    have i5 : i < 5 := by omega
    show mw_item_2_b K _ _ u
    unfold mw_item_2_b
    have next : ¬ (pre t n (Wl 0) p = (Wl 0).length ∧ gN G = 8) → mw_item_2 K (m + 1) (nI i + 1) u := by
      intro c
      rw [nI_1]
      exact mq_item2 hB h hp hW hK hX m (i + 1) (by omega) (fun _ => c)
    have ei : (nI i = 0) = (i = 0) := kq (by omega) (by decide) rfl
    refine br_f (nI_ge (b := 5) i5 (by decide)) (mq_isWordAt i5 hB h hp (bI_if (fun q => next ?_) (fun q => ?_)))
    · have q := of_decide_eq_false q
      by_cases c : i = 0
      · subst c; exact fun y => q y.1
      · exact hf (by omega)
    · have q := of_decide_eq_true q
      unfold mw_isFull
      rw [ei, h.1.1]
      refine ⟨fun c => br_t rfl (next (hf (by omega))), fun c => ⟨fun d => br_t rfl (next (fun y => d (by rw [y.2]; rfl))), fun d => br_f (by decide) ?_⟩⟩
      subst c
      have e8 : gN G = 8 := (nI_eq (a := gN G) (b := 8) (by omega) (by decide)).mp d
      have hw : wst t n p = 0 := by
        unfold wst
        rw [if_pos]
        cases y : tcB t n 116 p with
        | true => rfl
        | false =>
          have : pre t n (Wl 0) p = 0 := pre_0 y
          rw [this] at q
          exact absurd q (by decide)
      intro σ1 e1
      rw [h.2.2.1] at e1
      exact ⟨Or.inl rfl, hX p (it_f hw (by omega) e8) _ (by rw [e1]; exact h.mf)⟩
theorem mq_item (hB : MB σb s n t) (h : MG σb s n G p u) (hp : p ≤ n) (hW : gW G) (hK : ∀ G' p', itC t n G p kk xx = kk G' p' → gW G' → p < p' ∧ p' ≤ n → ∀ u', MG σb s n G' p' u' → K 1 u') (hX : ∀ e, itC t n G p kk xx = xx e → ∀ u', MF σb e u' → K 0 u') : mw_item K u := ⟨6, mq_item2 hB h hp hW hK hX 5 0 rfl (fun c => absurd c (by decide))⟩
end MdK
