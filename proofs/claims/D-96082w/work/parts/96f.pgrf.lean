/-! ground: the call -/
theorem RQ.flt {G : Gd} {tr x w : Nat} {sh : Nat → Nat} {δ : XSh} {σ : XSt} {σm : MSt} {v : Int32} (h : RQ G w tr sh δ σ σm x) : RQ G w tr sh δ (tI σ 0 x 6 v) (sF σm 5 v) x := by
  obtain ⟨h1, h2, h3, h4, h5⟩ := h
  refine ⟨h1, h2, h3, ?_, h5⟩
  obtain ⟨b0, b1, b2, b3, b4, b5, b6, b7, b8, b9, b10, b11⟩ := h4
  refine ⟨b0, b1, b2, b3, b4, b5, b6, ?_, b8, b9, b10, b11⟩
  rw [tI_s, pk_us, sF_s]
theorem HRr.t0 {x s o k n j : Nat} {δ : XSh} {σ : XSt} {σm : MSt} {v : Int32} (h : HRr δ σ σm s o k n) : HRr δ (tI σ 0 x j v) σm s o k n := h
theorem HRr.mg {s o k n : Nat} {δ : XSh} {σ : XSt} {σm u : MSt} (hs : s < 8) (h : HRr δ σ σm s o k n) (hg : Mg σm u) : HRr δ σ u s o k n := by
  unfold HRr at h ⊢
  rw [hg.2.1 14 (by decide), hg.2.1 15 (by decide), hg.2.1 16 (by decide), hg.2.2]
  exact h
theorem xp_refuseQ {G : Gd} {tr x w q : Nat} {sh : Nat → Nat} {δ δ1 : XSh} {σ σ1 : XSt} {σm : MSt} {K : Int32 → XSt → Prop} (k : Nat) (k1 : 1 ≤ k) (k7 : k ≤ 7) (h : RQ G w tr sh δ σ σm x) (hN : NewRe (-nI k) δ σ q δ1 σ1) (hK : ∀ σ2, RQ G w tr sh δ1 σ2 (sI σm 6 k (σm.2.1 6 k + 1)) x → K (-nI k) σ2) : xw_S_refused δ1 K x q σ1 := by
  obtain ⟨hA, -, -, hw⟩ := hN
  unfold xw_S_refused
  obtain ⟨n1, n2⟩ := ng8 k k1 k7
  rw [hw, n2]
  refine ⟨n1, n1, ?_⟩
  rintro σ3 rfl
  have e : (tI σ1 2 x k (σ1.1 2 x k + 1)).1 13 q 6 = -nI k := by
    rw [← hw]; simp [tI]
  rw [e]
  exact hK _ ((h.kp hA.kp).ref k1 k7)
section MdG
variable {σb : MSt} {s n : Nat} {t : Nat → Int32} {K : Int32 → MSt → Prop} {R : Type} {kk : Gd → Int32 → R} {xx : Nat → R}
theorem mq_62 (hB : MB σb s n t) : ∀ (f : Nat) (G : Gd) (p : Nat) (c : Int32) (u : MSt), MG σb s n G p u → gW G → p ≤ n → n - p ≤ f → (∀ G' c' p' u', itsC t n kk xx f G p c = kk G' c' → gW G' → MG σb s n G' p' u' → K c' u') → (∀ e, itsC t n kk xx f G p c = xx e → ∀ c' u', MF σb e u' → mw_ground_133 K c' 0 u') → mw_ground_62 K (f + 2) c 1 u
  | 0, G, p, c, u, h, hW, hp, hf, hK, hX => by
    have hn := hB.2.1
    show mw_ground_62_b K _ c 1 u
    unfold mw_ground_62_b mw_ground_133
    rw [h.2.2.1, h.2.2.2.1]
    exact br_f (by decide) (br_t (nI_le (by omega) (by omega)) (br_f (by decide) (hK G c p u rfl hW h)))
  | f + 1, G, p, c, u, h, hW, hp, hf, hK, hX => by
    have hn := hB.2.1
    show mw_ground_62_b K _ c 1 u
    unfold mw_ground_62_b
    rw [h.2.2.1, h.2.2.2.1]
    refine br_f (by decide) ⟨fun d => ?_, fun d => ?_⟩
    · have := (nI_leI (by omega) (by omega)).mp d
      exact br_f (by decide) (hK G c p u (if_pos (by omega)) hW h)
    · have pl : p < n := by
        rcases Nat.lt_or_ge p n with y | y
        · exact y
        · exact absurd (nI_le y (by omega)) d
      obtain ⟨i1, i2, i3, i4⟩ := h.ix hB pl
      rw [i1, i3, i4]
      refine ⟨i2, fun z => ?_, fun z => ?_⟩
      · intro σ5 e5
        rw [nI_1] at e5
        have m5 : MG σb s n G (p + 1) σ5 := by rw [e5]; exact h.po
        have E : itsC t n kk xx (f + 1) G p c = itC t n G (p + 1) (fun G' p' => itsC t n kk xx f G' p' (c + 1)) xx := by
          show (if p = n then _ else _) = _
          rw [if_neg (by omega), if_pos z]
        exact mq_item hB m5 pl hW (fun G' p' e g l u' m' => mq_62 hB f G' p' (c + 1) u' m' g l.2 (by omega) (fun G2 c2 p2 u2 e2 => hK G2 c2 p2 u2 (E.trans (e.trans e2))) (fun e2 he => hX e2 (E.trans (e.trans he)))) (fun e2 he u' f' => br_t rfl (hX e2 (E.trans he) (c + 1) u' f'))
      · intro σ9 e9
        have e : itsC t n kk xx (f + 1) G p c = xx p := by
          show (if p = n then _ else if t p = 59 then _ else _) = _
          rw [if_neg (by omega), if_neg z]
        exact br_t rfl (hX p e c _ (by rw [e9]; exact h.mf))
theorem s160 : ∀ s, s < 8 → (160 : Int32) * nI s = nI (160 * s) := by decide
abbrev txG (t : Nat → Int32) (n : Nat) (G : Gd) : (Gd × Int32) ⊕ Nat := itC t n G 0 (fun G' p' => itsC t n (fun G' c' => Sum.inl (G', c')) Sum.inr 160 G' p' 1) Sum.inr
theorem mq_ground {G : Gd} {σm : MSt} (hW : gW G) (hR : RM G σm) (hs : s < 8) (hn : n ≤ 160) (h14 : σm.2.1 14 s = 1) (h16 : σm.2.1 16 s = nI n) (hwd : ∀ i, i < 32 → σm.2.1 20 i = wordsM i) (ht : ∀ i, (σm.2.2 18 (160 * s + i)).toInt32 = t i) (hK : ∀ G' c' u', txG t n G = Sum.inl (G', c') → RM G' u' → Mg (sF σm 5 (-1)) u' → K c' u') (hX : ∀ e u', txG t n G = Sum.inr e → RM G u' → Mg (sF (sF σm 5 (-1)) 5 (nI e)) u' → K (-nI 6) (sI u' 6 6 (u'.2.1 6 6 + 1))) : mw_ground K (nI s) σm := by
  unfold mw_ground mw_wants
  refine mp_shelf_t hs (br_n (by decide) ⟨pin hs, ?_⟩)
  rw [pcl hs, h14]
  refine br_n (by decide) ⟨pin hs, br_n (by decide) (br_t rfl (mp_allS (Or.inl rfl) (fun u0 hS => ?_)))⟩
  intro σ4 e4 σ5 e5
  refine ⟨pin hs, ?_⟩
  intro σ7 e7 σ8 e8
  have ms0 : Ms σm u0 := ⟨fun k _ => congrFun hS.1 k, fun a ha => hS.2.2.1 a (by omega), by rw [hS.2.1]⟩
  have r0 : RM G u0 := hR.ms ms0
  have a8 : ∀ a, σ8.2.1 a = u0.2.1 a := fun a => by rw [e8, e7, e5, e4]; rfl
  have f8 : ∀ k, ¬ (k = 5 ∨ k = 22 ∨ k = 23 ∨ k = 24) → σ8.1 k = σm.1 k := fun k hk => by
    rw [e8, sF_n _ _ (by omega), e7, sF_n _ _ (by omega), e5, sF_n _ _ (by omega), e4, sF_n _ _ (by omega), hS.1]
  have t8 : σ8.2.2 = σm.2.2 := by rw [e8, e7, e5, e4]; exact hS.2.1
  have v5 : σ8.1 5 = -1 := by rw [e8, sF_s]
  have v22 : σ8.1 22 = nI (160 * s) := by
    rw [e8, sF_n _ _ (by decide), e7, sF_n _ _ (by decide), e5, sF_n _ _ (by decide), e4, sF_s, s160 s hs]
  have v23 : σ8.1 23 = nI 0 := by
    rw [e8, sF_n _ _ (by decide), e7, sF_n _ _ (by decide), e5, sF_s]; rfl
  have v24 : σ8.1 24 = nI n := by
    rw [e8, sF_n _ _ (by decide), e7, sF_s, e5, e4]
    show u0.2.1 16 s = nI n
    rw [hS.2.2.1 16 (by decide)]
    exact h16
  have r8 : RM G σ8 := by
    unfold RM at r0 ⊢
    rw [a8 7, a8 8, a8 9, a8 10, a8 11, a8 12, a8 13, f8 0 (by decide), f8 1 (by decide), f8 2 (by decide), f8 3 (by decide), f8 4 (by decide)]
    rw [hS.1] at r0
    exact r0
  have hB : MB σ8 s n t := ⟨hs, hn, fun i => by rw [t8]; exact ht i, fun i hi => by rw [a8 20, hS.2.2.1 20 (by decide)]; exact hwd i hi⟩
  have mg : MG σ8 s n G 0 σ8 := ⟨r8, v22, v23, v24, Mg.rf, rfl⟩
  have m8 : Mg (sF σm 5 (-1)) σ8 := by
    refine ⟨fun k hk => ?_, fun a ha => ?_, ?_⟩
    · rcases hk with q | q | q <;> subst q
      · rw [v5, sF_s]
      · rw [f8 36 (by decide)]; rfl
      · rw [f8 37 (by decide)]; rfl
    · rw [a8 a, hS.2.2.1 a (by omega)]; rfl
    · rw [t8]; rfl
  have X : ∀ e, txG t n G = Sum.inr e → ∀ c' u', MF σ8 e u' → mw_ground_133 K c' 0 u' := by
    intro e he c' u' f'
    refine br_t rfl (mp_allR (Or.inl rfl) (fun v hv => ?_))
    rintro σ3 rfl
    have e26 : v.1 26 = nI e := by rw [hv.1 26 (by decide)]; exact f'.2.2
    have rv : RM G v := hv.rm (by rw [f'.2.1, a8 27]; exact hS.rk hR hW.1) hW.1
    rw [e26]
    refine mp_no 6 (by decide) (by decide) (hX e (sF v 5 (nI e)) he rv ⟨fun k hk => ?_, fun a ha => ?_, ?_⟩)
    · rcases hk with q | q | q <;> subst q
      · rw [sF_s, sF_s]
      · rw [sF_n _ _ (by decide), hv.1 36 (by decide), f'.1.1 36 (by decide), f8 36 (by decide)]; rfl
      · rw [sF_n _ _ (by decide), hv.1 37 (by decide), f'.1.1 37 (by decide), f8 37 (by decide)]; rfl
    · show v.2.1 a = σm.2.1 a
      rw [hv.2.2.1 a (by omega), f'.1.2.1 a ha, a8 a, hS.2.2.1 a (by omega)]
    · show v.2.2 18 = σm.2.2 18
      rw [hv.2.1, f'.1.2.2, t8]
  refine mq_item hB mg (Nat.zero_le _) hW (kk := fun G' p' => itsC t n (fun G' c' => Sum.inl (G', c')) Sum.inr 160 G' p' 1) (xx := (Sum.inr : Nat → (Gd × Int32) ⊕ Nat)) (fun G' p' e g l u' m' => ⟨162, mq_62 hB 160 G' p' 1 u' m' g l.2 (by omega) (fun G2 c2 p2 u2 e2 g2 m2 => hK G2 c2 u2 (e.trans e2) m2.1 (m8.tr m2.2.2.2.2.1)) (fun e2 he => X e2 (e.trans he))⟩) (fun e he u' f' => ⟨1, br_t rfl (X e he 1 u' f')⟩)
end MdG
theorem pl_ground : Pl_ground RL := by
  intro δ σ σm x h x1
  obtain ⟨G, w, tr, sh, h⟩ := h
  have hn := h.n
  unfold xw_S_ground xw_S_ground_72
  refine xp_shelf h (fun c q δ1 σ1 hN => xp_refuse 1 (by decide) (by decide) h hN (fun σ2 hr => ?_)) (fun s hs e => ?_)
  · unfold mw_ground mw_wants
    exact mp_shelf_f c ⟨fun z => absurd rfl z, fun _ => br_f (by decide) (mp_no 1 (by decide) (by decide) ⟨rfl, hr⟩)⟩
  subst e
  refine xp_row h hs (fun a q δ1 σ1 hN => xp_refuse 3 (by decide) (by decide) h hN (fun σ2 hr => ?_)) (fun a q δ1 σ1 hN => xp_refuse 2 (by decide) (by decide) h hN (fun σ2 hr => ?_)) (fun o k n a1 hr => ?_)
  · unfold mw_ground mw_wants
    refine mp_shelf_t hs (br_n (by decide) ⟨pin hs, ?_⟩)
    rw [pcl hs, a]
    exact br_n (by decide) ⟨pin hs, br_y rfl (br_f (by decide) (mp_no 3 (by decide) (by decide) ⟨rfl, hr⟩))⟩
  · unfold mw_ground mw_wants
    refine mp_shelf_t hs (br_n (by decide) ⟨pin hs, ?_⟩)
    rw [pcl hs, a]
    exact br_y rfl (br_f (by decide) (mp_no 2 (by decide) (by decide) ⟨rfl, hr⟩))
  have h14 := hr.2.2.2.2.2.2.1
  have h16 := hr.2.2.2.2.2.2.2.2.1
  have n160 := hr.2.2.2.2.2.1
  have hwd := h.wd
  obtain ⟨t, ht⟩ : ∃ t : Nat → Int32, ∀ i, (σm.2.2 18 (160 * s + i)).toInt32 = t i := ⟨fun i => (σm.2.2 18 (160 * s + i)).toInt32, fun _ => rfl⟩
  intro σ9 e9
  have h9 : RQ G w tr sh δ σ9 (sF σm 5 (-1)) x := by rw [e9]; exact h.flt
  have hr9 : HRr δ σ9 σm s o k n := by rw [e9]; exact hr.t0
  intro g δ11 σ12 hG
  have hA := hG.1
  have hF := hG.2.1
  have h12 := h9.kp hA.kp
  have gg : gI δ11 g := ⟨hG.2.2.1, hG.2.2.2.2.2.2.2.1, hG.2.2.2.2.2.2.2.2.1, hG.2.2.2.2.2.2.2.2.2⟩
  have wg : w ≠ g := (hF (6, w) h.gw.1).1
  have tg : tr ≠ g := (hF (6, tr) h.gt.1).1
  refine ⟨w, h12.wE, xp_take8 h12.rc h12.gw wg hn h.1.2.1 (fun σ18 c18 k18 d18 => ?_)⟩
  have A18 : Agr δ σ9 δ11 σ18 := hA.fr hF k18
  intro rd δ20 σ21 hRd
  have A21 : Agr δ σ9 δ20 σ21 := A18.tr hRd.1
  have hB : BA δ σ9 σm rd g o k n s t := ⟨hr9, hF, fun κ hκ => (hRd.2.1 κ (hA.1.m hκ)).1, ht⟩
  have rd0 : RD δ σ9 rd g o w (gN G) G 0 0 δ20 σ21 := by
    refine ⟨A21, hRd.2.2.1, gg.m hRd.1.1, hRd.2.2.2.1, hRd.2.2.2.2.1, hRd.2.2.2.2.2.1, hRd.2.2.2.2.2.2, c18.ag gg hRd.1, h.1, Nat.le_refl _, fun j hj => ?_⟩
    rw [(hRd.1.2 (8, g) gg.2.1).2.2, d18 j hj, (hA.2 (8, w) h.gw.2.1).2.2]
  refine xq_items hB rd0 (kk := fun G' c' => (Sum.inl (G', c') : (Gd × Int32) ⊕ Nat)) (xx := Sum.inr) (fun G' c' p' a' δ' σ' E r' => ?_) (fun e E q δ' σ' f' => ?_)
  · rintro σ36 rfl
    have A' := r'.1
    have h' := h9.kp (tr := tr) A'.kp
    refine mq_ground h.1 h.rm hs n160 h14 h16 hwd ht (fun G2 c2 u2 E2 R2 M2 => ?_) (fun e u' E2 => ?_)
    · have eq : Sum.inl (G', c') = (Sum.inl (G2, c2) : (Gd × Int32) ⊕ Nat) := E.symm.trans E2
      injection eq with eq
      injection eq with eq1 eq2
      subst eq1
      subst eq2
      refine ⟨rfl, G', g, tr, sh, r'.gw, R2, r'.rc, ?_, ?_⟩
      · obtain ⟨b0, b1, b2, b3, b4, b5, b6, b7, b8, b9, b10, b11⟩ := h'.2.2.2.1
        have him := h9.2.2.2.1.2.2.2.2.2.2.2.2.2.2.2
        refine ⟨b0, r'.2.2.1, b2, tg, ?_, ?_, fun i i1 i7 => ?_, ?_, ?_, fun i hi => ?_, fun i hi => ?_, ?_⟩
        · rw [tP_s, vup_e, if_neg (by decide)]; exact b4
        · rw [tP_s, vup_e, if_pos rfl]
        · rw [M2.2.1 6 (by decide)]; exact b6 i i1 i7
        · rw [M2.1 5 (by decide)]; exact b7
        · rw [M2.1 36 (by decide)]; exact b8
        · rw [M2.2.1 35 (by decide)]; exact b9 i hi
        · rw [M2.2.1 20 (by decide)]; exact b10 i hi
        · rcases him with ⟨i1, i2⟩ | ⟨im, GI, i1, i2, i3, i4, i5, i6, i7, i8⟩
          · refine Or.inl ⟨?_, by rw [M2.1 37 (by decide)]; exact i2⟩
            rw [tP_s, vup_e, if_neg (by decide), (A'.2 (0, x) h.m0).2.2]; exact i1
          · have c' : RC GI δ' σ' im := i6.ag i4 A'
            refine Or.inr ⟨im, GI, ?_, i2, (hF (6, im) i4.1).1, i4.m A'.1, i5, c', by rw [M2.1 37 (by decide)]; exact i7, by rw [M2.2.1 28 (by decide)]; exact i8⟩
            rw [tP_s, vup_e, if_neg (by decide), (A'.2 (0, x) h.m0).2.2]; exact i1
      · obtain ⟨s1, s2, s3⟩ := h'.2.2.2.2
        refine ⟨fun s' hs' => ⟨(s1 s' hs').1, (s1 s' hs').2.1, ?_⟩, s2, s3⟩
        rcases (s1 s' hs').2.2 with ⟨a, b⟩ | ⟨o', t', a1, a2, a3, a4, a5⟩ | ⟨o', k', n', a1, a2⟩
        · exact Or.inl ⟨a, by rw [M2.2.1 14 (by decide)]; exact b⟩
        · refine Or.inr (Or.inl ⟨o', t', a1, Nat.lt_of_lt_of_le a2 r'.2.2.2.2.2.2.2.2.2.1, ?_, by rw [M2.2.1 14 (by decide)]; exact a4, by rw [M2.2.1 17 (by decide)]; exact a5⟩)
          show σ'.2.2 8 g t' = some o'
          rw [r'.2.2.2.2.2.2.2.2.2.2 t' a2, ← a3, (A'.2 (8, w) h.gw.2.1).2.2]
        · exact Or.inr (Or.inr ⟨o', k', n', a1, HRr.mg hs' a2 M2⟩)
    · exfalso
      have eq : (Sum.inl (G', c') : (Gd × Int32) ⊕ Nat) = Sum.inr e := E.symm.trans E2
      cases eq
  · intro σ45 e45 q46 δ47 σ48 hN
    have A' := f'.1
    have h' := h9.kp (tr := tr) A'.kp
    rw [f'.2] at e45
    have h45 : RQ G w tr sh δ' σ45 (sF (sF σm 5 (-1)) 5 (nI e)) x := by rw [e45]; exact h'.flt
    refine xp_refuseQ 6 (by decide) (by decide) h45 hN (fun σ2 hq => ?_)
    refine mq_ground h.1 h.rm hs n160 h14 h16 hwd ht (fun G2 c2 u2 E2 => ?_) (fun e2 u' E2 R2 M2 => ⟨rfl, ?_⟩)
    · exfalso
      have eq : (Sum.inl (G2, c2) : (Gd × Int32) ⊕ Nat) = Sum.inr e := E2.symm.trans E
      cases eq
    · have eq : (Sum.inr e2 : (Gd × Int32) ⊕ Nat) = Sum.inr e := E2.symm.trans E
      injection eq with eq
      subst eq
      refine (hq.mg ?_ ?_).rl
      · exact R2
      · refine ⟨fun k hk => M2.1 k hk, fun a ha => ?_, M2.2.2⟩
        by_cases q : a = 6
        · subst q
          rw [sI_s, sI_s, M2.2.1 6 (by decide)]
        · rw [sI_n _ _ _ q, sI_n _ _ _ q]; exact M2.2.1 a ha
