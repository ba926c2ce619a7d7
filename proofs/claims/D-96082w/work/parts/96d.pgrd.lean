/-! ground: the model's reader -/
def MG (σb : MSt) (s n : Nat) (G : Gd) (p : Nat) (u : MSt) : Prop := RM G u ∧ u.1 22 = nI (160 * s) ∧ u.1 23 = nI p ∧ u.1 24 = nI n ∧ Mg σb u ∧ u.2.1 27 = σb.2.1 27
def MF (σb : MSt) (e : Nat) (u : MSt) : Prop := Mg σb u ∧ u.2.1 27 = σb.2.1 27 ∧ u.1 26 = nI e
def MB (σb : MSt) (s n : Nat) (t : Nat → Int32) : Prop := s < 8 ∧ n ≤ 160 ∧ (∀ i, (σb.2.2 18 (160 * s + i)).toInt32 = t i) ∧ ∀ i, i < 32 → σb.2.1 20 i = wordsM i
section MdC
variable {σb u : MSt} {s n p : Nat} {t : Nat → Int32} {G : Gd}
theorem MG.ix {i : Nat} (hB : MB σb s n t) (h : MG σb s n G p u) (hi : i < n) : u.1 22 + nI i = nI (160 * s + i) ∧ vp_in (nI (160 * s + i)) 1280 ∧ (nI (160 * s + i)).toNatClampNeg = 160 * s + i ∧ (u.2.2 18 (160 * s + i)).toInt32 = t i := by
  obtain ⟨b1, b2, b3, b4⟩ := hB
  refine ⟨by rw [h.2.1, nI_add], vp_in_nI (by omega) (by omega), nI_clamp (by omega), ?_⟩
  rw [h.2.2.2.2.1.2.2]
  exact b3 i
theorem MG.wd {i : Nat} (hB : MB σb s n t) (h : MG σb s n G p u) (hi : i < 32) : u.2.1 20 i = wordsM i := by
  rw [h.2.2.2.2.1.2.1 20 (by decide)]
  exact hB.2.2.2 i hi
theorem MG.f {k : Nat} {v : Int32} (h : MG σb s n G p u) (hk : ¬ (k ≤ 5 ∨ k = 36 ∨ k = 37 ∨ k = 22 ∨ k = 23 ∨ k = 24)) : MG σb s n G p (sF u k v) := by
  obtain ⟨h1, h2, h3, h4, h5, h6⟩ := h
  exact ⟨h1.ms (Ms.sF (by omega)), by rw [sF_n _ _ (by omega)]; exact h2, by rw [sF_n _ _ (by omega)]; exact h3, by rw [sF_n _ _ (by omega)]; exact h4, h5.tr (Mg.sF (by omega)), h6⟩
theorem MG.po {v : Nat} (h : MG σb s n G p u) : MG σb s n G v (sF u 23 (nI v)) := by
  obtain ⟨h1, h2, h3, h4, h5, h6⟩ := h
  exact ⟨h1.ms (Ms.sF (by decide)), by rw [sF_n _ _ (by decide)]; exact h2, sF_s _ _ _, by rw [sF_n _ _ (by decide)]; exact h4, h5.tr (Mg.sF (by decide)), h6⟩
theorem MG.i21 {j : Nat} {v : Int32} (h : MG σb s n G p u) : MG σb s n G p (sI u 21 j v) := by
  obtain ⟨h1, h2, h3, h4, h5, h6⟩ := h
  exact ⟨h1.ms (Ms.sI (by decide)), h2, h3, h4, h5.tr (Mg.sI (by decide)), by rw [sI_n _ _ _ (by decide)]; exact h6⟩
theorem MG.mf {e : Nat} (h : MG σb s n G p u) : MF σb e (sF u 26 (nI e)) := ⟨h.2.2.2.2.1.tr (Mg.sF (by decide)), h.2.2.2.2.2, sF_s _ _ _⟩
theorem mq_isDigit {K : Int32 → Prop} (hB : MB σb s n t) (h : MG σb s n G p u) (hp : p ≤ n) (hK : K (bI (dg t n p))) : mw_isDigit u K := by
  have hn := hB.2.1
  unfold mw_isDigit
  unfold dg at hK
  rw [h.2.2.1, h.2.2.2.1]
  refine ⟨fun c => ?_, fun c => ?_⟩
  · have := (nI_leI (by omega) (by omega)).mp c
    rw [decide_eq_false (by omega)] at hK
    exact hK
  · have pl : p < n := by
      rcases Nat.lt_or_ge p n with q | q
      · exact q
      · exact absurd (nI_le q (by omega)) c
    obtain ⟨i1, i2, i3, i4⟩ := h.ix hB pl
    rw [i1, i3, i4]
    rw [decide_eq_true pl] at hK
    refine ⟨i2, fun d => ?_, fun d => ⟨i2, fun d' => ?_, fun d' => ?_⟩⟩
    · rw [decide_eq_true d] at hK; exact hK
    · rw [decide_eq_false d, decide_eq_true d'] at hK; exact hK
    · rw [decide_eq_false d, decide_eq_false d'] at hK; exact hK
variable {K : Int32 → MSt → Prop}
theorem mq_number (hB : MB σb s n t) (h : MG σb s n G p u) (hp : p ≤ n) (h1 : dg t n p = true → ∀ u', MG σb s n G (pe t n p) u' → u'.1 25 = vl t n p → u'.2.1 21 = u.2.1 21 → K 1 u') (h0 : dg t n p = false → ∀ u', MF σb p u' → K 0 u') : mw_number K u := by
  have hn := hB.2.1
  intro σ1 e1
  have m1 : MG σb s n G p σ1 := by rw [e1]; exact h.f (by decide)
  have g1 : σ1.2.1 21 = u.2.1 21 := by rw [e1]; rfl
  refine mq_isDigit hB m1 hp (bI_fi (fun z => ?_) (fun z => ?_))
  · intro σ2 e2
    rw [m1.2.2.1] at e2
    exact ⟨Or.inl rfl, h0 z _ (by rw [e2]; exact m1.mf)⟩
  · have pl := dg_lt z
    obtain ⟨i1, i2, i3, i4⟩ := m1.ix hB pl
    rw [m1.2.2.1, i1, i3, i4]
    refine ⟨i2, ?_⟩
    intro σ5 e5 σ6 e6
    have m5 : MG σb s n G p σ5 := by rw [e5]; exact m1.f (by decide)
    rw [m5.2.2.1, nI_1] at e6
    have m6 : MG σb s n G (p + 1) σ6 := by rw [e6]; exact m5.po
    have v6 : σ6.1 25 = t p - 48 := by rw [e6, sF_n _ _ (by decide), e5, sF_s]
    have g6 : σ6.2.1 21 = u.2.1 21 := by rw [e6, e5]; exact g1
    refine mq_isDigit hB m6 pl (bI_if (fun y => h1 z σ6 ?_ ?_ g6) (fun y => ?_))
    · unfold pe; rw [if_neg (by rw [y]; decide)]; exact m6
    · unfold vl; rw [if_neg (by rw [y]; decide)]; exact v6
    · have pl2 := dg_lt y
      obtain ⟨i1, i2, i3, i4⟩ := m6.ix hB pl2
      rw [m6.2.2.1, i1, i3, i4, v6]
      refine ⟨i2, ?_⟩
      intro σ10 e10 σ11 e11
      have m10 : MG σb s n G (p + 1) σ10 := by rw [e10]; exact m6.f (by decide)
      rw [m10.2.2.1, nI_1] at e11
      have m11 : MG σb s n G (p + 1 + 1) σ11 := by rw [e11]; exact m10.po
      refine h1 z σ11 ?_ ?_ (by rw [e11, e10]; exact g6)
      · unfold pe; rw [if_pos y]; exact m11
      · unfold vl; rw [if_pos y, e11, sF_n _ _ (by decide), e10, sF_s]
variable {L96 : Int32 → Int32 → Int32 → MSt → Prop} {x2 x3 : Int32}
theorem mq_157 {j : Nat} (hj : j < 5) (so : Int32 → Bool) (hB : MB σb s n t) (h : MG σb s n G p u) (hp : p ≤ n) (hso : ∀ u', MG σb s n G (pe t n p) u' → u'.1 25 = vl t n p → u'.2.1 21 = u.2.1 21 → dg t n p = true → ∀ K' : Int32 → Prop, K' (bI (so (vl t n p))) → mw_isSo u' K' x2 (nI j)) (h1 : dg t n p = true → so (vl t n p) = true → ∀ u', MG σb s n G (pe t n p) u' → u'.2.1 21 = upd (u.2.1 21) j (vl t n p) → L96 x2 x3 (nI (j + 1)) u') (h0 : (dg t n p = true → so (vl t n p) = false) → ∀ u', MF σb p u' → K 0 u') : mw_item_157 K L96 x2 x3 (nI j) u := by
  refine mq_number hB h hp (fun z u' m' v' g' => br_n (by decide) (hso u' m' v' g' z _ (bI_fi (fun y => ?_) (fun y => ⟨vp_in_nI hj (by decide), ?_⟩)))) (fun z u' f' => br_y rfl (h0 (fun y => by rw [z] at y; cases y) u' f'))
  · intro σ1 e1
    rw [h.2.2.1] at e1
    exact ⟨Or.inl rfl, h0 (fun _ => y) _ (by rw [e1]; exact m'.mf)⟩
  · intro σ7 e7
    rw [nI_clamp (by omega)] at e7
    rw [nI_1]
    refine h1 z y σ7 (by rw [e7]; exact m'.i21) ?_
    rw [e7, sI_s, g', v']
theorem mq_n0 {R : Type} {kk : Int32 → Nat → R} {xx : Nat → R} {c : Nat} (hc : 0 < c) (hc5 : c ≤ 5) (so : Int32 → Bool) (hB : MB σb s n t) (z : tcB t n 32 p = true) (h : MG σb s n G (p + 1) u) (hso : ∀ u', MG σb s n G (pe t n (p + 1)) u' → u'.1 25 = vl t n (p + 1) → u'.2.1 21 = u.2.1 21 → dg t n (p + 1) = true → ∀ K' : Int32 → Prop, K' (bI (so (vl t n (p + 1)))) → mw_isSo u' K' x2 0) (hK : ∀ v p' b, nuS t n p so kk xx = kk v p' → so v = true → b < 100 → v = nI b → p < p' ∧ p' ≤ n → ∀ u', MG σb s n G p' u' → u'.2.1 21 = upd (u.2.1 21) 0 v → L96 x2 (nI c) 1 u') (hX : ∀ e, nuS t n p so kk xx = xx e → ∀ u', MF σb e u' → K 0 u') : mw_item_96_b K L96 x2 (nI c) 0 u := by
  have pl := (tcB_lt z).1
  refine br_f (nI_ge (a := 0) hc (by omega)) (br_t (by decide) ?_)
  refine mq_157 (j := 0) (by decide) so hB h pl hso (fun d y u' m' g' => ?_) (fun d => hX _ (nu_x1 z d))
  obtain ⟨b, hb, eb⟩ := vl_nn d
  have pel := pe_lt (t := t) (n := n) (p := p + 1)
  exact hK _ _ b (nu_k z d y) y (by omega) eb ⟨by omega, pe_le d⟩ u' m' g'
theorem mq_nx {R : Type} {kk : Int32 → Nat → R} {xx : Nat → R} {c j : Nat} (hj : 0 < j) (hc : j < c) (hc5 : c ≤ 5) (so : Int32 → Bool) (hB : MB σb s n t) (h : MG σb s n G p u) (hp : p ≤ n) (hso : ∀ u', MG σb s n G (pe t n (p + 1)) u' → u'.1 25 = vl t n (p + 1) → u'.2.1 21 = u.2.1 21 → dg t n (p + 1) = true → ∀ K' : Int32 → Prop, K' (bI (so (vl t n (p + 1)))) → mw_isSo u' K' x2 (nI j)) (hK : ∀ v p' b, nuS t n p so kk xx = kk v p' → so v = true → b < 100 → v = nI b → p < p' ∧ p' ≤ n → ∀ u', MG σb s n G p' u' → u'.2.1 21 = upd (u.2.1 21) j v → L96 x2 (nI c) (nI (j + 1)) u') (hX : ∀ e, nuS t n p so kk xx = xx e → ∀ u', MF σb e u' → K 0 u') : mw_item_96_b K L96 x2 (nI c) (nI j) u := by
  have hn := hB.2.1
  refine br_f (nI_ge hc (by omega)) (br_f (nI_nle hj (by omega)) ?_)
  unfold mw_item_138
  rw [h.2.2.1, h.2.2.2.1]
  have bad : tcB t n 32 p = false → mw_wrong (fun r1 σ2 => (r1 = 0 ∨ r1 = 1) ∧ K r1 σ2) (nI p) u := by
    intro z σ1 e1
    exact ⟨Or.inl rfl, hX p (nu_x0 z) _ (by rw [e1]; exact h.mf)⟩
  refine ⟨fun c => bad ?_, fun c => ?_⟩
  · have := (nI_leI (by omega) (by omega)).mp c
    unfold tcB
    rw [decide_eq_false (by omega)]; rfl
  · have pl : p < n := by
      rcases Nat.lt_or_ge p n with q | q
      · exact q
      · exact absurd (nI_le q (by omega)) c
    obtain ⟨i1, i2, i3, i4⟩ := h.ix hB pl
    rw [i1, i3, i4]
    refine ⟨i2, fun d => ?_, fun d => bad ?_⟩
    · have z : tcB t n 32 p = true := by unfold tcB; rw [decide_eq_true pl, decide_eq_true d]; rfl
      intro σ26 e26
      rw [nI_1] at e26
      have m26 : MG σb s n G (p + 1) σ26 := by rw [e26]; exact h.po
      have g26 : σ26.2.1 21 = u.2.1 21 := by rw [e26]; rfl
      refine mq_157 (by omega) so hB m26 pl (fun u' a b c => hso u' a b (c.trans g26)) (fun d y u' m' g' => ?_) (fun d => hX _ (nu_x1 z d))
      obtain ⟨b, hb, eb⟩ := vl_nn d
      have pel := pe_lt (t := t) (n := n) (p := p + 1)
      exact hK _ _ b (nu_k z d y) y (by omega) eb ⟨by omega, pe_le d⟩ u' m' (by rw [g', g26])
    · unfold tcB
      rw [decide_eq_false d, Bool.and_false]
end MdC
/-! the words -/
def stW : Nat → Nat
  | 0 => 0
  | 1 => 7
  | 2 => 15
  | 3 => 20
  | 4 => 26
  | _ => 32
def Ws (w : Nat) : List Int32 := Wl w ++ [32]
def zcW (i : Nat) : Nat := if i ≤ 6 then 0 else if i ≤ 14 then 1 else if i ≤ 19 then 2 else if i ≤ 25 then 3 else 4
theorem wt1 : ∀ w, w < 5 → ∀ j, j < (Ws w).length → wordsM (stW w + j) = (Ws w).getD j 0 ∧ ¬ (Ws w).getD j 0 = 0 ∧ stW w + j < 32 := by decide +kernel
theorem wt2 : ∀ w, w < 5 → wordsM (stW w + (Ws w).length) = 0 ∧ stW w + (Ws w).length < 32 ∧ stW (w + 1) = stW w + (Ws w).length + 1 ∧ (Ws w).length ≤ 7 := by decide +kernel
theorem wt3 : ∀ w, w < 5 → ∀ j, j < (Wl w).length → ¬ (Ws w).getD j 0 ≤ 32 ∧ (Ws w).getD j 0 = (Wl w).getD j 0 ∧ 32 < (Ws w).getD j 0 := by decide +kernel
theorem wt4 : ∀ w, w < 5 → (Ws w).getD (Wl w).length 0 = 32 ∧ (Ws w).length = (Wl w).length + 1 := by decide +kernel
theorem wt5 : ∀ w, w < 5 → ∀ i, i < stW w → zcW i < w ∧ i < 32 ∧ zcW (i + 1) = (if wordsM i = 0 then zcW i + 1 else zcW i) := by decide +kernel
theorem wt6 : ∀ w, w < 5 → zcW (stW w) = w ∧ stW w < 32 := by decide +kernel
section MdW
variable {σb u : MSt} {s n p : Nat} {t : Nat → Int32} {G : Gd}
theorem pre_cons (c : Int32) (l : List Int32) (p : Nat) : pre t n (c :: l) p = if tcB t n c p = true then pre t n l (p + 1) + 1 else 0 := rfl
theorem pre_app : ∀ (l : List Int32) (p : Nat), pre t n (l ++ [32]) p = if pre t n l p < l.length then pre t n l p else l.length + (if tcB t n 32 (p + l.length) = true then 1 else 0)
  | [], p => by simp [pre]
  | c :: l, p => by
    show pre t n (c :: (l ++ [32])) p = _
    rw [pre_cons, pre_cons]
    by_cases z : tcB t n c p = true
    · rw [if_pos z, if_pos z, pre_app l (p + 1)]
      have e : p + (l.length + 1) = p + 1 + l.length := by omega
      simp only [List.length_cons, e]
      by_cases q : pre t n l (p + 1) < l.length
      · rw [if_pos q, if_pos (by omega)]
      · have q2 : ¬ pre t n l (p + 1) + 1 < l.length + 1 := by omega
        rw [if_neg q, if_neg q2]; omega
    · rw [if_neg z, if_neg z, if_pos (by simp)]
theorem pre_drop {l : List Int32} {j : Nat} (hj : j < l.length) (p : Nat) : pre t n (l.drop j) p = if tcB t n (l.getD j 0) p = true then pre t n (l.drop (j + 1)) (p + 1) + 1 else 0 := by
  rw [List.drop_eq_getElem_cons hj, pre_cons]
  have eg : l.getD j 0 = l[j] := by rw [List.getD_eq_getElem?_getD, List.getElem?_eq_getElem hj]; rfl
  rw [eg]
variable {K : Int32 → MSt → Prop} {L9 : Int32 → Int32 → Int32 → MSt → Prop}
theorem mq_105 {w f : Nat} (hw : w < 5) (hB : MB σb s n t) (h : MG σb s n G p u) (hL : L9 (nI (stW (w + 1))) (nI f) (nI (w + 1)) u) : ∀ (m j : Nat), j + m = (Ws w).length → mw_word_105 K L9 (m + 1) (nI (stW w + j)) (nI f) (nI w) u
  | 0, j, hj => by
    have q := wt2 w hw
    show mw_word_105_b K L9 _ _ _ _ u
    unfold mw_word_105_b
    rw [nI_clamp (by omega), h.wd hB (by omega), show stW w + j = stW w + (Ws w).length by omega, q.1]
    refine ⟨vp_in_nI q.2.1 (by decide), br_t rfl ?_⟩
    rw [nI_1, nI_1, ← q.2.2.1]
    exact hL
  | m + 1, j, hj => by
    have q := wt1 w hw j (by omega)
    show mw_word_105_b K L9 _ _ _ _ u
    unfold mw_word_105_b
    rw [nI_clamp (by omega), h.wd hB q.2.2, q.1]
    refine ⟨vp_in_nI q.2.2 (by decide), br_f q.2.1 ?_⟩
    rw [nI_1]
    exact mq_105 hw hB h hL m (j + 1) (by omega)
theorem mq_23 {w f : Nat} (hw : w < 5) (hB : MB σb s n t) (h : MG σb s n G p u) (hf : f < 2 ^ 31) : ∀ (m j x : Nat), j + m = (Ws w).length → x ≤ n → (pre t n ((Ws w).drop j) x = m → ∀ u', MG σb s n G (x + m) u' → u'.2.1 21 = u.2.1 21 → K (nI w) u') → (pre t n ((Ws w).drop j) x < m → L9 (nI (stW (w + 1))) (nI (if x + pre t n ((Ws w).drop j) x ≤ f then f else x + pre t n ((Ws w).drop j) x)) (nI (w + 1)) u) → mw_word_23 K L9 (m + 1) (nI (stW w)) (nI f) (nI w) (nI x) (nI (stW w + j)) u
  | 0, j, x, hj, hx, hK, hL => by
    have hn := hB.2.1
    have q := wt2 w hw
    show mw_word_23_b K L9 _ _ _ _ _ _ u
    unfold mw_word_23_b mw_word_74
    rw [nI_clamp (by omega), h.wd hB (by omega), show stW w + j = stW w + (Ws w).length by omega, q.1]
    refine ⟨vp_in_nI q.2.1 (by decide), br_t rfl ⟨vp_in_nI q.2.1 (by decide), br_y rfl ?_⟩⟩
    rintro σ4 rfl
    exact hK (by rw [List.drop_eq_nil_of_le (by omega)]; rfl) _ h.po rfl
  | m + 1, j, x, hj, hx, hK, hL => by
    have hn := hB.2.1
    have q := wt1 w hw j (by omega)
    have q2 := wt2 w hw
    have jl : j < (Ws w).length := by omega
    rw [pre_drop jl] at hK hL
    show mw_word_23_b K L9 _ _ _ _ _ _ u
    unfold mw_word_23_b
    have no : tcB t n ((Ws w).getD j 0) x = false → mw_word_74 K L9 (nI (stW w)) (nI f) (nI w) (nI x) (nI (stW w + j)) u := by
      intro z
      rw [if_neg (by rw [z]; decide)] at hL
      have hL := hL (by omega)
      unfold mw_word_74
      rw [nI_clamp (by omega), h.wd hB q.2.2, q.1]
      refine ⟨vp_in_nI q.2.2 (by decide), br_n q.2.1 ⟨fun c => ⟨(Ws w).length + 1, ?_⟩, fun c => ⟨(Ws w).length + 1, ?_⟩⟩⟩
      · have := (nI_leI (by omega) (by omega)).mp c
        rw [if_pos (by omega)] at hL
        exact mq_105 hw hB h hL (Ws w).length 0 (by omega)
      · have : ¬ x ≤ f := fun y => c ((nI_leI (by omega) (by omega)).mpr y)
        rw [if_neg (by omega)] at hL
        exact mq_105 hw hB h hL (Ws w).length 0 (by omega)
    rw [nI_clamp (by omega), h.wd hB q.2.2, q.1, h.2.2.2.1]
    refine ⟨vp_in_nI q.2.2 (by decide), br_f q.2.1 ⟨fun c => no ?_, fun c => ?_⟩⟩
    · have := (nI_leI (by omega) (by omega)).mp c
      unfold tcB
      rw [decide_eq_false (by omega)]; rfl
    · have xl : x < n := by
        rcases Nat.lt_or_ge x n with y | y
        · exact y
        · exact absurd (nI_le y (by omega)) c
      obtain ⟨i1, i2, i3, i4⟩ := h.ix hB xl
      rw [i1, i3, i4]
      refine ⟨i2, vp_in_nI q.2.2 (by decide), fun d => no ?_, fun d => ?_⟩
      · unfold tcB
        rw [decide_eq_false d, Bool.and_false]
      · have z : tcB t n ((Ws w).getD j 0) x = true := by unfold tcB; rw [decide_eq_true xl, decide_eq_true d]; rfl
        rw [if_pos z] at hK hL
        rw [nI_1, nI_1]
        refine mq_23 hw hB h hf m (j + 1) (x + 1) (by omega) xl (fun e u' m' g' => hK (by omega) u' (by rw [show x + (m + 1) = x + 1 + m by omega]; exact m') g') (fun e => ?_)
        have := hL (by omega)
        rw [show x + (pre t n ((Ws w).drop (j + 1)) (x + 1) + 1) = x + 1 + pre t n ((Ws w).drop (j + 1)) (x + 1) by omega] at this
        exact this
/-- the other words fall short of the one that the first letters tell -/
theorem wst_lt : wst t n p < 5 := by
  unfold wst
  split
  · decide
  · split
    · split <;> decide
    · split <;> decide
theorem tc_ne {c d : Int32} (h : tcB t n c p = true) (hne : ¬ c = d) : tcB t n d p = false := by
  have q := (tcB_lt h).2
  unfold tcB
  rw [q, decide_eq_false hne, Bool.and_false]
theorem pre_0 {c : Int32} {l : List Int32} (h : tcB t n c p = false) : pre t n (c :: l) p = 0 := by
  rw [pre_cons, if_neg (by rw [h]; decide)]
theorem pre_1 {c d : Int32} {l : List Int32} (h : tcB t n d (p + 1) = false) : pre t n (c :: d :: l) p ≤ 1 := by
  rw [pre_cons]
  split
  · rw [pre_0 h]
    exact Nat.le_refl _
  · exact Nat.zero_le _
theorem pre_p {c : Int32} {l : List Int32} (h : tcB t n c p = true) : 1 ≤ pre t n (c :: l) p := by
  rw [pre_cons, if_pos h]
  omega
theorem oth {w : Nat} (hw : w < 5) (hne : ¬ w = wst t n p) : pre t n (Ws w) p ≤ pre t n (Ws (wst t n p)) p ∧ pre t n (Ws w) p < (Ws w).length := by
  have len : ∀ w, w < 5 → 2 ≤ (Ws w).length := by decide
  have l2 := len w hw
  rcases (by omega : w = 0 ∨ w = 1 ∨ w = 2 ∨ w = 3 ∨ w = 4) with e | e | e | e | e <;> subst e
  · have z : tcB t n 116 p = false := by
      cases q : tcB t n 116 p with
      | false => rfl
      | true => exact absurd (by unfold wst; rw [if_pos q]) hne
    have e : pre t n (Ws 0) p = 0 := pre_0 z
    rw [e]
    exact ⟨Nat.zero_le _, by omega⟩
  · by_cases z1 : tcB t n 116 p = true
    · have e : pre t n (Ws 1) p = 0 := pre_0 (tc_ne z1 (by decide))
      rw [e]; exact ⟨Nat.zero_le _, by omega⟩
    · by_cases z2 : tcB t n 115 p = true
      · have z3 : tcB t n 117 (p + 1) = false := by
          cases q : tcB t n 117 (p + 1) with
          | false => rfl
          | true => exact absurd (by unfold wst; rw [if_neg z1, if_pos z2, if_pos q]) hne
        have hw3 : wst t n p = 3 := by unfold wst; rw [if_neg z1, if_pos z2, if_neg (by rw [z3]; decide)]
        rw [hw3]
        have a : pre t n (Ws 1) p ≤ 1 := pre_1 z3
        have b : 1 ≤ pre t n (Ws 3) p := pre_p z2
        exact ⟨by omega, by omega⟩
      · have e : pre t n (Ws 1) p = 0 := pre_0 (Bool.eq_false_iff.mpr z2)
        rw [e]; exact ⟨Nat.zero_le _, by omega⟩
  · have z : tcB t n 102 p = false := by
      cases q : tcB t n 102 p with
      | false => rfl
      | true => exact absurd (by unfold wst; rw [if_neg (by rw [tc_ne q (by decide)]; decide), if_neg (by rw [tc_ne q (by decide)]; decide), if_pos q]) hne
    have e : pre t n (Ws 2) p = 0 := pre_0 z
    rw [e]
    exact ⟨Nat.zero_le _, by omega⟩
  · by_cases z1 : tcB t n 116 p = true
    · have e : pre t n (Ws 3) p = 0 := pre_0 (tc_ne z1 (by decide))
      rw [e]; exact ⟨Nat.zero_le _, by omega⟩
    · by_cases z2 : tcB t n 115 p = true
      · have z3 : tcB t n 117 (p + 1) = true := by
          cases q : tcB t n 117 (p + 1) with
          | true => rfl
          | false => exact absurd (by unfold wst; rw [if_neg z1, if_pos z2, if_neg (by rw [q]; decide)]) hne
        have hw3 : wst t n p = 1 := by unfold wst; rw [if_neg z1, if_pos z2, if_pos z3]
        rw [hw3]
        have a : pre t n (Ws 3) p ≤ 1 := pre_1 (tc_ne z3 (by decide))
        have b : 1 ≤ pre t n (Ws 1) p := pre_p z2
        exact ⟨by omega, by omega⟩
      · have e : pre t n (Ws 3) p = 0 := pre_0 (Bool.eq_false_iff.mpr z2)
        rw [e]; exact ⟨Nat.zero_le _, by omega⟩
  · have z : tcB t n 100 p = false := by
      cases q : tcB t n 100 p with
      | false => rfl
      | true => exact absurd (by unfold wst; rw [if_neg (by rw [tc_ne q (by decide)]; decide), if_neg (by rw [tc_ne q (by decide)]; decide), if_neg (by rw [tc_ne q (by decide)]; decide)]) hne
    have e : pre t n (Ws 4) p = 0 := pre_0 z
    rw [e]
    exact ⟨Nat.zero_le _, by omega⟩
theorem mq_word9 (hB : MB σb s n t) (h : MG σb s n G p u) (hp : p ≤ n) (h1 : pre t n (Ws (wst t n p)) p = (Ws (wst t n p)).length → ∀ u', MG σb s n G (p + (Ws (wst t n p)).length) u' → u'.2.1 21 = u.2.1 21 → K (nI (wst t n p)) u') (h0 : pre t n (Ws (wst t n p)) p < (Ws (wst t n p)).length → ∀ u', MF σb (p + pre t n (Ws (wst t n p)) p) u' → K (-1) u') : ∀ (m w f : Nat), w + m = 5 → f ≤ p + pre t n (Ws (wst t n p)) p → (wst t n p < w → f = p + pre t n (Ws (wst t n p)) p ∧ pre t n (Ws (wst t n p)) p < (Ws (wst t n p)).length) → mw_word_9 K (m + 1) (nI (stW w)) (nI f) (nI w) u
  | 0, w, f, hm, hf, hi => by
    have hw : w = 5 := by omega
    subst hw
    obtain ⟨i1, i2⟩ := hi wst_lt
    show mw_word_9_b K _ _ _ _ u
    refine br_t (by decide) ?_
    rintro σ2 rfl
    exact h0 i2 _ (by rw [i1]; exact h.mf)
  | m + 1, w, f, hm, hf, hi => by
    have hn := hB.2.1
    have hw : w < 5 := by omega
    have pl := pre_le (t := t) (n := n) (Ws (wst t n p)) p
    have ql := (wt2 (wst t n p) wst_lt).2.2.2
    show mw_word_9_b K _ _ _ _ u
    refine br_f (nI_ge (b := 5) hw (by decide)) ⟨(Ws w).length + 1, ?_⟩
    rw [h.2.2.1]
    refine mq_23 hw hB h (by omega) (Ws w).length 0 p (by omega) hp (fun e u' m' g' => ?_) (fun e => ?_)
    · by_cases c : w = wst t n p
      · subst c
        exact h1 e u' m' g'
      · have := (oth hw c).2
        have e : pre t n (Ws w) p = (Ws w).length := e
        omega
    · have e : pre t n (Ws w) p < (Ws w).length := e
      show mw_word_9 K (m + 1) (nI (stW (w + 1))) (nI (if p + pre t n (Ws w) p ≤ f then f else p + pre t n (Ws w) p)) (nI (w + 1)) u
      refine mq_word9 hB h hp h1 h0 m (w + 1) _ (by omega) ?_ (fun c => ?_)
      · by_cases c : w = wst t n p
        · rw [← c]; rw [← c] at hf; split <;> omega
        · have := (oth hw c).1
          split <;> omega
      · by_cases c' : w = wst t n p
        · rw [← c']
          rw [← c'] at hf
          refine ⟨?_, e⟩
          split <;> omega
        · obtain ⟨j1, j2⟩ := hi (by omega)
          have := (oth hw c').1
          refine ⟨?_, j2⟩
          rw [if_pos (by omega)]
          exact j1
theorem mq_word (hB : MB σb s n t) (h : MG σb s n G p u) (hp : p ≤ n) (h1 : pre t n (Ws (wst t n p)) p = (Ws (wst t n p)).length → ∀ u', MG σb s n G (p + (Ws (wst t n p)).length) u' → u'.2.1 21 = u.2.1 21 → K (nI (wst t n p)) u') (h0 : pre t n (Ws (wst t n p)) p < (Ws (wst t n p)).length → ∀ u', MF σb (p + pre t n (Ws (wst t n p)) p) u' → K (-1) u') : mw_word K u := by
  refine ⟨6, ?_⟩
  rw [h.2.2.1]
  exact mq_word9 hB h hp h1 h0 5 0 p rfl (by omega) (fun c => by omega)
theorem mq_37 {K : Int32 → Prop} {w : Nat} (hw : w < 5) (hB : MB σb s n t) (h : MG σb s n G p u) : ∀ (m j x : Nat), j + m = (Wl w).length → x ≤ n → K (bI (decide (pre t n ((Wl w).drop j) x = m))) → mw_isWordAt_37 u K (m + 1) (nI (stW w + j)) (nI x)
  | 0, j, x, hj, hx, hK => by
    have q := wt2 w hw
    have q4 := wt4 w hw
    have q1 := wt1 w hw j (by omega)
    have e : (Ws w).getD j 0 = 32 := by rw [show j = (Wl w).length by omega]; exact q4.1
    show mw_isWordAt_37_b u K _ _ _
    unfold mw_isWordAt_37_b mw_isWordAt_86
    rw [nI_clamp (by omega), h.wd hB q1.2.2, q1.1, e]
    refine ⟨vp_in_nI q1.2.2 (by decide), br_t (by decide) ⟨vp_in_nI q1.2.2 (by decide), br_f (by decide) ?_⟩⟩
    rw [List.drop_eq_nil_of_le (by omega)] at hK
    exact hK
  | m + 1, j, x, hj, hx, hK => by
    have hn := hB.2.1
    have jl : j < (Wl w).length := by omega
    have q4 := wt4 w hw
    have q1 := wt1 w hw j (by omega)
    have q3 := wt3 w hw j jl
    rw [pre_drop jl] at hK
    show mw_isWordAt_37_b u K _ _ _
    unfold mw_isWordAt_37_b
    have no : tcB t n ((Wl w).getD j 0) x = false → mw_isWordAt_86 u K (nI (stW w + j)) := by
      intro z
      rw [if_neg (by rw [z]; decide), decide_eq_false (by omega)] at hK
      unfold mw_isWordAt_86
      rw [nI_clamp (by omega), h.wd hB q1.2.2, q1.1]
      exact ⟨vp_in_nI q1.2.2 (by decide), br_t q3.2.2 hK⟩
    rw [nI_clamp (by omega), h.wd hB q1.2.2, q1.1, h.2.2.2.1]
    refine ⟨vp_in_nI q1.2.2 (by decide), br_f q3.1 ⟨fun c => no ?_, fun c => ?_⟩⟩
    · have := (nI_leI (by omega) (by omega)).mp c
      unfold tcB
      rw [decide_eq_false (by omega)]; rfl
    · have xl : x < n := by
        rcases Nat.lt_or_ge x n with y | y
        · exact y
        · exact absurd (nI_le y (by omega)) c
      obtain ⟨i1, i2, i3, i4⟩ := h.ix hB xl
      rw [i1, i3, i4, q3.2.1]
      refine ⟨i2, vp_in_nI q1.2.2 (by decide), fun d => no ?_, fun d => ?_⟩
      · unfold tcB
        rw [decide_eq_false d, Bool.and_false]
      · have z : tcB t n ((Wl w).getD j 0) x = true := by unfold tcB; rw [decide_eq_true xl, decide_eq_true d]; rfl
        rw [if_pos z] at hK
        rw [nI_1, nI_1]
        refine mq_37 hw hB h m (j + 1) (x + 1) (by omega) xl ?_
        have e : decide (pre t n ((Wl w).drop (j + 1)) (x + 1) + 1 = m + 1) = decide (pre t n ((Wl w).drop (j + 1)) (x + 1) = m) := by
          rw [decide_eq_decide]; omega
        rw [e] at hK
        exact hK
theorem mq_4 {K : Int32 → Prop} {w : Nat} (hw : w < 5) (hB : MB σb s n t) (h : MG σb s n G p u) (hp : p ≤ n) (hK : K (bI (decide (pre t n (Wl w) p = (Wl w).length)))) : ∀ (m i : Nat), i + m = stW w → mw_isWordAt_4 u K (m + 1) (nI w) (nI i) (nI (zcW i))
  | 0, i, hi => by
    have q := wt6 w hw
    have e : i = stW w := by omega
    subst e
    show mw_isWordAt_4_b u K _ _ _ _
    unfold mw_isWordAt_4_b
    rw [q.1, h.2.2.1]
    exact br_t (Int32.le_refl _) ⟨_, mq_37 hw hB h (Wl w).length 0 p (by omega) hp hK⟩
  | m + 1, i, hi => by
    have q := wt5 w hw i (by omega)
    show mw_isWordAt_4_b u K _ _ _ _
    unfold mw_isWordAt_4_b
    rw [nI_clamp (by omega), h.wd hB q.2.1]
    refine br_f (nI_ge q.1 (by omega)) ⟨vp_in_nI q.2.1 (by decide), fun c => ?_, fun c => ?_⟩
    · have e := q.2.2
      rw [if_neg c] at e
      rw [nI_1, Int32.add_zero, ← e]
      exact mq_4 hw hB h hp hK m (i + 1) (by omega)
    · have e := q.2.2
      rw [if_pos c] at e
      rw [nI_1, nI_1, ← e]
      exact mq_4 hw hB h hp hK m (i + 1) (by omega)
theorem mq_isWordAt {K : Int32 → Prop} {w : Nat} (hw : w < 5) (hB : MB σb s n t) (h : MG σb s n G p u) (hp : p ≤ n) (hK : K (bI (decide (pre t n (Wl w) p = (Wl w).length)))) : mw_isWordAt u K (nI w) := ⟨_, mq_4 hw hB h hp hK (stW w) 0 (by omega)⟩
end MdW
