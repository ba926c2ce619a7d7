/-! acts -/
abbrev Tc : Type := Nat × (Nat → Int32)
def TrC (x : Nat) (s : Tc) (σ0 σ : XSt) : Prop := σ.1 3 x 1 = nI s.1 ∧ (∀ i, i < 20 → σ.1 4 x i = s.2 i) ∧ σ.2 = σ0.2 ∧ ∀ k i, ¬ (i = x ∧ (k = 3 ∨ k = 4)) → σ.1 k i = σ0.1 k i
def TrM (s : Tc) (σm u : MSt) : Prop := u.1 36 = nI s.1 ∧ (∀ i, i < 20 → u.2.1 35 i = s.2 i) ∧ (∀ k, k ≠ 36 → u.1 k = σm.1 k) ∧ (∀ a, a ≠ 35 → u.2.1 a = σm.2.1 a) ∧ u.2.2 = σm.2.2
def rn (b : Int32) (s : Tc) : Tc := (s.1 + 1, upd s.2 s.1 b)
theorem n20 {n : Nat} (h : n < 20) : ¬ (20 : Int32) ≤ nI n := nI_ge (b := 20) h (by decide)
theorem xp_runs {δ : XSh} {σ0 σ : XSt} {x : Nat} {s : Tc} {b : Int32} {K : XSt → Prop} (hn : s.1 < 20) (h : TrC x s σ0 σ) (hK : ∀ σ', TrC x (rn b s) σ0 σ' → K σ') : xw_Tr_runs δ K x b σ := by
  obtain ⟨h1, h2, h3, h4⟩ := h
  unfold xw_Tr_runs xw_Tr_runs_19
  rw [h1, nI_clamp (by omega)]
  refine br_f (n20 hn) ⟨vp_in_nI (by omega) (by decide), ?_⟩
  rintro σ3 rfl σ4 rfl
  refine hK _ ⟨?_, fun i hi => ?_, h3, fun k i hk => ?_⟩
  · rw [tI_s, pk_us, tI_n _ _ _ (fun z => absurd z.1 (by decide)), h1, nI_1]; rfl
  · rw [tI_n _ _ _ (fun z => absurd z.1 (by decide)), tI_s, upd_e]
    show _ = upd s.2 s.1 b i
    rw [upd_e, h2 i hi]
  · rw [tI_n _ _ _ (fun z => hk ⟨z.2, Or.inl z.1⟩), tI_n _ _ _ (fun z => hk ⟨z.2, Or.inr z.1⟩)]
    exact h4 k i hk
theorem mp_body {σm u : MSt} {s : Tc} {b : Int32} {K : MSt → Prop} (hn : s.1 < 20) (h : TrM s σm u) (hK : ∀ v, TrM (rn b s) σm v → K v) : mw_body K b u := by
  obtain ⟨h1, h2, h3, h4, h5⟩ := h
  unfold mw_body mw_body_19
  rw [h1, nI_clamp (by omega)]
  refine br_f (n20 hn) ⟨vp_in_nI (by exact hn) (by decide), ?_⟩
  rintro σ3 rfl σ4 rfl
  refine hK _ ⟨?_, fun i hi => ?_, fun k hk => ?_, fun a ha => ?_, h5⟩
  · rw [sF_s]
    show u.1 36 + 1 = _
    rw [h1, nI_1]; rfl
  · show (sI u 35 s.1 b).2.1 35 i = _
    rw [sI_s, upd_e]
    show _ = upd s.2 s.1 b i
    rw [upd_e, h2 i hi]
  · rw [sF_n _ _ hk]; exact h3 k hk
  · show (sI u 35 s.1 b).2.1 a = _
    rw [sI_n _ _ _ ha]; exact h4 a ha
theorem RM.tm {G : Gd} {σm u : MSt} {s : Tc} (h : RM G σm) (ht : TrM s σm u) : RM G u := by
  obtain ⟨-, -, h3, h4, -⟩ := ht
  unfold RM
  rw [h3 0 (by decide), h3 1 (by decide), h3 2 (by decide), h3 3 (by decide), h3 4 (by decide), h4 7 (by decide), h4 8 (by decide), h4 9 (by decide), h4 10 (by decide), h4 11 (by decide), h4 12 (by decide), h4 13 (by decide)]
  exact h
/-- which bodies run, and what comes of it -/
def sB (k : Nat) (s : Tc) : Tc := if k = 4 then rn 10 (rn 20 (rn 51 s)) else if k = 6 then rn 10 (rn 70 s) else if k = 1 ∨ k = 3 ∨ k = 5 then rn 10 (rn 20 s) else rn 10 s
def sV (k : Nat) (I B v : Int32) : Int32 := if k = 4 then v + I + B - I else if k = 6 then (v + I) * 2 else if k = 1 ∨ k = 3 ∨ k = 5 then v + I + B else v + I
def lB (k : Nat) (s : Tc) : Tc := sB k (rn 11 (if k = 3 then rn 40 s else if k = 6 then rn 30 (rn 71 s) else if k = 2 then rn 30 s else s))
def lV (k : Nat) (I B v : Int32) : Int32 := if k = 3 then sV k I B (v + 1) * 2 else if k = 6 then sV k I B (v - B) * 2 * 3 else if k = 2 then sV k I B v * 2 * 3 else sV k I B v * 2
def hB (k : Nat) (s : Tc) : Tc := sB k (lB k (rn 12 (if k = 4 then rn 50 s else if k = 5 then rn 60 s else s)))
def hV (k : Nat) (I B v : Int32) : Int32 := if k = 4 then -(lV k I B v ^^^ sV k I B (v - B)) else if k = 5 then (lV k I B v ^^^ sV k I B (v - B)) ^^^ 5 else lV k I B v ^^^ sV k I B (v - B)
theorem sB_n (k : Nat) (s : Tc) : (sB k s).1 ≤ s.1 + 3 := by
  unfold sB
  by_cases c4 : k = 4
  · rw [if_pos c4]; exact Nat.le_refl _
  · rw [if_neg c4]
    by_cases c6 : k = 6
    · rw [if_pos c6]; show s.1 + 1 + 1 ≤ _; omega
    · rw [if_neg c6]
      by_cases c : k = 1 ∨ k = 3 ∨ k = 5
      · rw [if_pos c]; show s.1 + 1 + 1 ≤ _; omega
      · rw [if_neg c]; show s.1 + 1 ≤ _; omega
theorem lB_n (k : Nat) (s : Tc) : (lB k s).1 ≤ s.1 + 6 := by
  unfold lB
  refine Nat.le_trans (sB_n k _) ?_
  show (if k = 3 then rn 40 s else if k = 6 then rn 30 (rn 71 s) else if k = 2 then rn 30 s else s).1 + 1 + 3 ≤ _
  by_cases c3 : k = 3
  · rw [if_pos c3]; show s.1 + 1 + 1 + 3 ≤ _; omega
  · rw [if_neg c3]
    by_cases c6 : k = 6
    · rw [if_pos c6]; show s.1 + 1 + 1 + 1 + 3 ≤ _; omega
    · rw [if_neg c6]
      by_cases c2 : k = 2
      · rw [if_pos c2]; show s.1 + 1 + 1 + 3 ≤ _; omega
      · rw [if_neg c2]; omega
section AC
variable {δ : XSh} {σ0 σ : XSt} {x o k : Nat} {s : Tc} {K : Int32 → XSt → Prop} {I B v : Int32}
theorem f7 (h : TrC x s σ0 σ) (o : Nat) : σ.1 7 o = σ0.1 7 o := h.2.2.2 7 o (fun z => by rcases z.2 with q | q <;> exact absurd q (by decide))
theorem xa_standing (hc : δ.2.2.1 o = 5 + k) (hk : k ≤ 6) (hn : s.1 + 3 ≤ 20) (h : TrC x s σ0 σ) (e0 : σ0.1 7 o 0 = I) (e3 : σ0.1 7 o 3 = B) (hK : ∀ σ', TrC x (sB k s) σ0 σ' → K (sV k I B v) σ') : xv_T_standing δ K o x v σ := by
  have r1 : ∀ {b : Int32} {s : Tc}, (rn b s).1 = s.1 + 1 := rfl
  have fin : ∀ {s' : Tc} {σ' : XSt}, TrC x s' σ0 σ' → σ'.1 7 o 0 = I ∧ σ'.1 7 o 3 = B := fun h' => by rw [f7 h' o]; exact ⟨e0, e3⟩
  unfold xv_T_standing
  rcases c7 hk with e | e | e | e | e | e | e <;> subst e <;> rw [hc] <;> refine ⟨fun z => ?_, fun z => ?_, fun z => ?_, fun z => ?_, fun z => ?_, fun z => ?_, fun z => ?_⟩ <;> first | exact absurd z (by decide) | skip
  · unfold xw_T_standing
    refine xp_runs (by omega) h (fun σ1 h1 => ?_)
    rw [(fin h1).1]; exact hK _ h1
  · unfold xw_Ho_standing xw_T_standing
    refine xp_runs (by omega) h (fun σ1 h1 => xp_runs (by rw [r1]; omega) h1 (fun σ2 h2 => ?_))
    dsimp only; rw [(fin h2).1, (fin h2).2]; exact hK _ h2
  · unfold xw_T_standing
    refine xp_runs (by omega) h (fun σ1 h1 => ?_)
    rw [(fin h1).1]; exact hK _ h1
  · unfold xw_Ho_standing xw_T_standing
    refine xp_runs (by omega) h (fun σ1 h1 => xp_runs (by rw [r1]; omega) h1 (fun σ2 h2 => ?_))
    dsimp only; rw [(fin h2).1, (fin h2).2]; exact hK _ h2
  · unfold xw_Sy_standing xw_Ho_standing xw_T_standing
    refine xp_runs (by omega) h (fun σ1 h1 => xp_runs (by rw [r1]; omega) h1 (fun σ2 h2 => xp_runs (by rw [r1, r1]; omega) h2 (fun σ3 h3 => ?_)))
    dsimp only; rw [(fin h3).1, (fin h3).2]; exact hK _ h3
  · unfold xw_Ho_standing xw_T_standing
    refine xp_runs (by omega) h (fun σ1 h1 => xp_runs (by rw [r1]; omega) h1 (fun σ2 h2 => ?_))
    dsimp only; rw [(fin h2).1, (fin h2).2]; exact hK _ h2
  · unfold xw_Fi_standing xw_T_standing
    refine xp_runs (by omega) h (fun σ1 h1 => xp_runs (by rw [r1]; omega) h1 (fun σ2 h2 => ?_))
    dsimp only; rw [(fin h2).1]; exact hK _ h2
theorem xa_looking (hc : δ.2.2.1 o = 5 + k) (hk : k ≤ 6) (hn : s.1 + 6 ≤ 20) (h : TrC x s σ0 σ) (e0 : σ0.1 7 o 0 = I) (e3 : σ0.1 7 o 3 = B) (hK : ∀ σ', TrC x (lB k s) σ0 σ' → K (lV k I B v) σ') : xv_T_looking δ K o x v σ := by
  have r1 : ∀ {b : Int32} {s : Tc}, (rn b s).1 = s.1 + 1 := rfl
  have fin : ∀ {s' : Tc} {σ' : XSt}, TrC x s' σ0 σ' → σ'.1 7 o 3 = B := fun h' => by rw [f7 h' o]; exact e3
  unfold xv_T_looking
  rcases c7 hk with e | e | e | e | e | e | e <;> subst e <;> rw [hc] <;> refine ⟨fun z => ?_, fun z => ?_, fun z => ?_, fun z => ?_, fun z => ?_, fun z => ?_, fun z => ?_⟩ <;> first | exact absurd z (by decide) | skip
  · unfold xw_T_looking
    exact xp_runs (by omega) h (fun σ1 h1 => xa_standing hc hk (by rw [r1]; omega) h1 e0 e3 (fun σ' h' => hK σ' h'))
  · unfold xw_T_looking
    exact xp_runs (by omega) h (fun σ1 h1 => xa_standing hc hk (by rw [r1]; omega) h1 e0 e3 (fun σ' h' => hK σ' h'))
  · unfold xw_Te_looking xw_T_looking
    exact xp_runs (by omega) h (fun σ1 h1 => xp_runs (by rw [r1]; omega) h1 (fun σ2 h2 => xa_standing hc hk (by rw [r1, r1]; omega) h2 e0 e3 (fun σ' h' => hK σ' h')))
  · unfold xw_To_looking xw_T_looking
    exact xp_runs (by omega) h (fun σ1 h1 => xp_runs (by rw [r1]; omega) h1 (fun σ2 h2 => xa_standing hc hk (by rw [r1, r1]; omega) h2 e0 e3 (fun σ' h' => hK σ' h')))
  · unfold xw_T_looking
    exact xp_runs (by omega) h (fun σ1 h1 => xa_standing hc hk (by rw [r1]; omega) h1 e0 e3 (fun σ' h' => hK σ' h'))
  · unfold xw_T_looking
    exact xp_runs (by omega) h (fun σ1 h1 => xa_standing hc hk (by rw [r1]; omega) h1 e0 e3 (fun σ' h' => hK σ' h'))
  · unfold xw_Fi_looking xw_Te_looking xw_T_looking
    refine xp_runs (by omega) h (fun σ1 h1 => ?_)
    rw [fin h1]
    exact xp_runs (by rw [r1]; omega) h1 (fun σ2 h2 => xp_runs (by rw [r1, r1]; omega) h2 (fun σ3 h3 => xa_standing hc hk (by rw [r1, r1, r1]; omega) h3 e0 e3 (fun σ' h' => hK σ' h')))
theorem xa_hiding (hc : δ.2.2.1 o = 5 + k) (hk : k ≤ 6) (hn : s.1 + 11 ≤ 20) (h : TrC x s σ0 σ) (e0 : σ0.1 7 o 0 = I) (e3 : σ0.1 7 o 3 = B) (hK : ∀ σ', TrC x (hB k s) σ0 σ' → K (hV k I B v) σ') : xv_T_hiding δ K o x v σ := by
  have r1 : ∀ {b : Int32} {s : Tc}, (rn b s).1 = s.1 + 1 := rfl
  have base : ∀ {K : Int32 → XSt → Prop} {s : Tc} {σ : XSt}, s.1 + 10 ≤ 20 → TrC x s σ0 σ → (∀ σ', TrC x (sB k (lB k (rn 12 s))) σ0 σ' → K (lV k I B v ^^^ sV k I B (v - B)) σ') → xw_T_hiding δ K o x v σ := by
    intro K s σ hn h hK
    unfold xw_T_hiding
    refine xp_runs (by omega) h (fun σ1 h1 => xa_looking hc hk (by rw [r1]; omega) h1 e0 e3 (fun σ2 h2 => ?_))
    rw [show σ2.1 7 o 3 = B by rw [f7 h2 o]; exact e3]
    have := lB_n k (rn 12 s)
    rw [r1] at this
    exact xa_standing hc hk (by omega) h2 e0 e3 (fun σ' h' => hK σ' h')
  unfold xv_T_hiding
  rcases c7 hk with e | e | e | e | e | e | e <;> subst e <;> rw [hc] <;> refine ⟨fun z => ?_, fun z => ?_, fun z => ?_, fun z => ?_, fun z => ?_, fun z => ?_, fun z => ?_⟩ <;> first | exact absurd z (by decide) | skip
  · exact base (by omega) h (fun σ' h' => hK σ' h')
  · exact base (by omega) h (fun σ' h' => hK σ' h')
  · exact base (by omega) h (fun σ' h' => hK σ' h')
  · exact base (by omega) h (fun σ' h' => hK σ' h')
  · unfold xw_Sy_hiding
    exact xp_runs (by omega) h (fun σ1 h1 => base (by rw [r1]; omega) h1 (fun σ' h' => hK σ' h'))
  · unfold xw_Bl_hiding
    exact xp_runs (by omega) h (fun σ1 h1 => base (by rw [r1]; omega) h1 (fun σ' h' => hK σ' h'))
  · exact base (by omega) h (fun σ' h' => hK σ' h')
end AC
theorem br_n {c A B : Prop} (h : ¬ c) (a : A) : (¬ c → A) ∧ (c → B) := ⟨fun _ => a, fun z => absurd z h⟩
theorem br_y {c A B : Prop} (h : c) (b : B) : (¬ c → A) ∧ (c → B) := ⟨fun z => absurd h z, fun _ => b⟩
section AM
variable {G : Gd} {σm u : MSt} {t : Nat} {s : Tc} {K : Int32 → MSt → Prop} {v : Int32}
theorem hs_k {G : Gd} {t k : Nat} (e : gK G t = k) : hs G t = (!decide (k = 0) && !decide (k = 2) && !decide (k = 6)) := by unfold hs; rw [e]
theorem ma_standing (hU : gU G) (hR : RM G σm) (ht : t < gN G) (hn : s.1 + 3 ≤ 20) (h : TrM s σm u) (hK : ∀ u', TrM (sB (gK G t) s) σm u' → K (sV (gK G t) (nI t) (gV G 3 t) v) u') : mw_standing K (nI t) v u := by
  have r1 : ∀ {b : Int32} {s : Tc}, (rn b s).1 = s.1 + 1 := rfl
  have hn8 := hU.1
  have t8 : t < 8 := by omega
  have h6 := (hU.2.2.1 t ht).1
  have fin : ∀ {s' : Tc} {u' : MSt}, TrM s' σm u' → u'.2.1 11 t = gV G 3 t := fun h' => ((hR.tm h').2.2.2.2.2 t ht).2.2.2.2.1
  unfold mw_standing mw_standing_25 mw_standing_37 mw_standing_48 mw_standing_75
  refine ⟨pin t8, mp_isHouse (hR.tm h) hn8 ht h6 ?_⟩
  rw [pcl t8, ((hR.tm h).2.2.2.2.2 t ht).1]
  rcases c7 h6 with e | e | e | e | e | e | e <;> rw [hs_k e, e] <;> rw [e] at hK
  · exact br_n (by decide) (br_n (by decide) (br_t (by decide) (mp_body (by omega) h (fun u1 h1 => br_t (by decide) (br_n (by decide) (br_n (by decide) (hK _ h1)))))))
  · refine br_n (by decide) (br_n (by decide) (br_f (by decide) (mp_body (by omega) h (fun u1 h1 => mp_body (by rw [r1]; omega) h1 (fun u2 h2 => br_f (by decide) ⟨pin t8, br_n (by decide) (br_n (by decide) ?_)⟩)))))
    rw [fin h2]; exact hK _ h2
  · exact br_n (by decide) (br_n (by decide) (br_t (by decide) (mp_body (by omega) h (fun u1 h1 => br_t (by decide) (br_n (by decide) (br_n (by decide) (hK _ h1)))))))
  · refine br_n (by decide) (br_n (by decide) (br_f (by decide) (mp_body (by omega) h (fun u1 h1 => mp_body (by rw [r1]; omega) h1 (fun u2 h2 => br_f (by decide) ⟨pin t8, br_n (by decide) (br_n (by decide) ?_)⟩)))))
    rw [fin h2]; exact hK _ h2
  · refine br_y rfl (mp_body (by omega) h (fun u0 h0 => br_n (by decide) (br_f (by decide) (mp_body (by rw [r1]; omega) h0 (fun u1 h1 => mp_body (by rw [r1, r1]; omega) h1 (fun u2 h2 => br_f (by decide) ⟨pin t8, br_y rfl ?_⟩))))))
    rw [fin h2]; exact hK _ h2
  · refine br_n (by decide) (br_n (by decide) (br_f (by decide) (mp_body (by omega) h (fun u1 h1 => mp_body (by rw [r1]; omega) h1 (fun u2 h2 => br_f (by decide) ⟨pin t8, br_n (by decide) (br_n (by decide) ?_)⟩)))))
    rw [fin h2]; exact hK _ h2
  · exact br_n (by decide) (br_y rfl (mp_body (by omega) h (fun u0 h0 => br_t (by decide) (mp_body (by rw [r1]; omega) h0 (fun u1 h1 => br_t (by decide) (br_n (by decide) (br_y rfl (hK _ h1))))))))
theorem ma_looking (hU : gU G) (hR : RM G σm) (ht : t < gN G) (hn : s.1 + 6 ≤ 20) (h : TrM s σm u) (hK : ∀ u', TrM (lB (gK G t) s) σm u' → K (lV (gK G t) (nI t) (gV G 3 t) v) u') : mw_looking K (nI t) v u := by
  have r1 : ∀ {b : Int32} {s : Tc}, (rn b s).1 = s.1 + 1 := rfl
  have hn8 := hU.1
  have t8 : t < 8 := by omega
  have h6 := (hU.2.2.1 t ht).1
  have fin : ∀ {s' : Tc} {u' : MSt}, TrM s' σm u' → u'.2.1 11 t = gV G 3 t := fun h' => ((hR.tm h').2.2.2.2.2 t ht).2.2.2.2.1
  unfold mw_looking mw_looking_26 mw_looking_48 mw_looking_59 mw_looking_65
  refine ⟨pin t8, ?_⟩
  rw [pcl t8, ((hR.tm h).2.2.2.2.2 t ht).1]
  rcases c7 h6 with e | e | e | e | e | e | e <;> rw [e] <;> rw [e] at hK
  · exact br_n (by decide) (br_n (by decide) (br_f (by decide) (br_n (by decide) (mp_body (by omega) h (fun u1 h1 => ma_standing hU hR ht (by rw [r1]; omega) h1 (fun u' h' => by rw [e] at h' ⊢; exact br_f (by decide) (br_n (by decide) (hK u' h'))))))))
  · exact br_n (by decide) (br_n (by decide) (br_f (by decide) (br_n (by decide) (mp_body (by omega) h (fun u1 h1 => ma_standing hU hR ht (by rw [r1]; omega) h1 (fun u' h' => by rw [e] at h' ⊢; exact br_f (by decide) (br_n (by decide) (hK u' h'))))))))
  · exact br_n (by decide) (br_n (by decide) (br_t rfl (mp_body (by omega) h (fun u0 h0 => mp_body (by rw [r1]; omega) h0 (fun u1 h1 => ma_standing hU hR ht (by rw [r1, r1]; omega) h1 (fun u' h' => by rw [e] at h' ⊢; exact br_t rfl (hK u' h')))))))
  · exact br_y rfl (mp_body (by omega) h (fun u0 h0 => br_n (by decide) (br_f (by decide) (br_n (by decide) (mp_body (by rw [r1]; omega) h0 (fun u1 h1 => ma_standing hU hR ht (by rw [r1, r1]; omega) h1 (fun u' h' => by rw [e] at h' ⊢; exact br_f (by decide) (br_n (by decide) (hK u' h')))))))))
  · exact br_n (by decide) (br_n (by decide) (br_f (by decide) (br_n (by decide) (mp_body (by omega) h (fun u1 h1 => ma_standing hU hR ht (by rw [r1]; omega) h1 (fun u' h' => by rw [e] at h' ⊢; exact br_f (by decide) (br_n (by decide) (hK u' h'))))))))
  · exact br_n (by decide) (br_n (by decide) (br_f (by decide) (br_n (by decide) (mp_body (by omega) h (fun u1 h1 => ma_standing hU hR ht (by rw [r1]; omega) h1 (fun u' h' => by rw [e] at h' ⊢; exact br_f (by decide) (br_n (by decide) (hK u' h'))))))))
  · refine br_n (by decide) (br_y rfl (mp_body (by omega) h (fun u0 h0 => ⟨pin t8, ?_⟩)))
    rw [fin h0]
    exact br_f (by decide) (br_y rfl (mp_body (by rw [r1]; omega) h0 (fun u1 h1 => mp_body (by rw [r1, r1]; omega) h1 (fun u2 h2 => ma_standing hU hR ht (by rw [r1, r1, r1]; omega) h2 (fun u' h' => by rw [e] at h' ⊢; exact br_f (by decide) (br_y rfl (hK u' h')))))))
theorem ma_hiding (hU : gU G) (hR : RM G σm) (ht : t < gN G) (hn : s.1 + 11 ≤ 20) (h : TrM s σm u) (hK : ∀ u', TrM (hB (gK G t) s) σm u' → K (hV (gK G t) (nI t) (gV G 3 t) v) u') : mw_hiding K (nI t) v u := by
  have r1 : ∀ {b : Int32} {s : Tc}, (rn b s).1 = s.1 + 1 := rfl
  have hn8 := hU.1
  have t8 : t < 8 := by omega
  have h6 := (hU.2.2.1 t ht).1
  have base : ∀ {s : Tc} {u : MSt}, s.1 + 10 ≤ 20 → TrM s σm u → (∀ u', TrM (sB (gK G t) (lB (gK G t) (rn 12 s))) σm u' → ((¬ (nI (gK G t) = 4)) → (((¬ (nI (gK G t) = 5)) → (K (lV (gK G t) (nI t) (gV G 3 t) v ^^^ sV (gK G t) (nI t) (gV G 3 t) (v - gV G 3 t)) u')) ∧ ((nI (gK G t) = 5) → (K ((lV (gK G t) (nI t) (gV G 3 t) v ^^^ sV (gK G t) (nI t) (gV G 3 t) (v - gV G 3 t)) ^^^ 5) u')))) ∧ ((nI (gK G t) = 4) → (K (-(lV (gK G t) (nI t) (gV G 3 t) v ^^^ sV (gK G t) (nI t) (gV G 3 t) (v - gV G 3 t))) u'))) → mw_hiding_29 K (nI t) v (nI (gK G t)) u := by
    intro s u hn h hK
    unfold mw_hiding_29
    refine mp_body (by omega) h (fun u1 h1 => ma_looking hU hR ht (by rw [r1]; omega) h1 (fun u2 h2 => ⟨pin t8, ?_⟩))
    rw [pcl t8, ((hR.tm h2).2.2.2.2.2 t ht).2.2.2.2.1]
    have := lB_n (gK G t) (rn 12 s)
    rw [r1] at this
    exact ma_standing hU hR ht (by omega) h2 (fun u' h' => hK u' h')
  unfold mw_hiding mw_hiding_18
  refine ⟨pin t8, ?_⟩
  rw [pcl t8, ((hR.tm h).2.2.2.2.2 t ht).1]
  rcases c7 h6 with e | e | e | e | e | e | e <;> rw [e] <;> rw [e] at hK base
  · exact br_n (by decide) (br_n (by decide) (base (by omega) h (fun u' h' => br_n (by decide) (br_n (by decide) (hK u' h')))))
  · exact br_n (by decide) (br_n (by decide) (base (by omega) h (fun u' h' => br_n (by decide) (br_n (by decide) (hK u' h')))))
  · exact br_n (by decide) (br_n (by decide) (base (by omega) h (fun u' h' => br_n (by decide) (br_n (by decide) (hK u' h')))))
  · exact br_n (by decide) (br_n (by decide) (base (by omega) h (fun u' h' => br_n (by decide) (br_n (by decide) (hK u' h')))))
  · exact br_y rfl (mp_body (by omega) h (fun u0 h0 => br_n (by decide) (base (by rw [r1]; omega) h0 (fun u' h' => br_y rfl (hK u' h')))))
  · exact br_n (by decide) (br_y rfl (mp_body (by omega) h (fun u0 h0 => base (by rw [r1]; omega) h0 (fun u' h' => br_n (by decide) (br_y rfl (hK u' h'))))))
  · exact br_n (by decide) (br_n (by decide) (base (by omega) h (fun u' h' => br_n (by decide) (br_n (by decide) (hK u' h')))))
end AM
theorem RQ.act {G : Gd} {tr x w : Nat} {sh : Nat → Nat} {δ : XSh} {σ σ' : XSt} {σm u : MSt} {s : Tc} (h : RQ G w tr sh δ σ σm x) (hs : s.1 ≤ 20) (h1 : TrC x s σ σ') (h2 : TrM s σm u) : RQ G w tr sh δ σ' u x := by
  obtain ⟨a1, a2, a3, a4⟩ := h1
  obtain ⟨b1, b2, b3, b4, b5⟩ := h2
  have ek : ∀ k i, ¬ (k = 3 ∨ k = 4) → σ'.1 k i = σ.1 k i := fun k i hk => a4 k i (fun z => hk z.2)
  obtain ⟨h1', h2', h3', h4', h5'⟩ := h
  have kp : Kp (tr + w + x + 1) δ σ δ σ' → True := fun _ => trivial
  refine ⟨h1', h2'.tm ⟨b1, b2, b3, b4, b5⟩, ?_, ?_, ?_⟩
  · unfold RC at h3' ⊢
    rw [ek 6 w (by decide), ek 9 w (by decide), ek 10 w (by decide), a3]
    refine ⟨h3'.1, h3'.2.1, h3'.2.2.1, h3'.2.2.2.1, h3'.2.2.2.2.1, h3'.2.2.2.2.2.1, fun i hi => ?_⟩
    obtain ⟨c1, c2, o, c3, c4, c5, c6⟩ := h3'.2.2.2.2.2.2 i hi
    refine ⟨c1, c2, o, c3, c4, c5, ?_⟩
    rw [ek 7 o (by decide)]; exact c6
  · unfold RX at h4' ⊢
    obtain ⟨c0, c1, c2, c3, c4, c5, c6, c7, c8, c9, c10, c11⟩ := h4'
    refine ⟨c0, c1, c2, c3, by rw [a3]; exact c4, by rw [a3]; exact c5, ?_, ?_, ⟨s.1, hs, a1, b1⟩, fun i hi => by rw [a2 i hi, b2 i hi], ?_, ?_⟩
    · rw [ek 2 x (by decide), b4 6 (by decide)]; exact c6
    · rw [ek 0 x (by decide), b3 5 (by decide)]; exact c7
    · rw [b4 20 (by decide)]; exact c10
    · unfold IM at c11 ⊢
      rw [a3, b3 37 (by decide), b4 28 (by decide)]
      rcases c11 with q | ⟨im, GI, d1, d2, d3, d4, d5, d6, d7⟩
      · exact Or.inl q
      · refine Or.inr ⟨im, GI, d1, d2, d3, d4, d5, ?_, d7⟩
        unfold RC at d6 ⊢
        rw [ek 6 im (by decide), ek 9 im (by decide), ek 10 im (by decide), a3]
        refine ⟨d6.1, d6.2.1, d6.2.2.1, d6.2.2.2.1, d6.2.2.2.2.1, d6.2.2.2.2.2.1, fun i hi => ?_⟩
        obtain ⟨c1, c2, o, c3, c4, c5, c6⟩ := d6.2.2.2.2.2.2 i hi
        refine ⟨c1, c2, o, c3, c4, c5, ?_⟩
        rw [ek 7 o (by decide)]; exact c6
  · obtain ⟨c1, c2, c3⟩ := h5'
    refine ⟨fun s hs => ?_, c2, ?_⟩
    · obtain ⟨d1, d2, d3⟩ := c1 s hs
      refine ⟨by rw [a3]; exact d1, d2, ?_⟩
      unfold HR HRr rv rok at d3 ⊢
      rw [a3, b4 14 (by decide), b4 15 (by decide), b4 16 (by decide), b4 17 (by decide), b5]
      rcases d3 with q | q | ⟨o, k, n, q⟩
      · exact Or.inl q
      · exact Or.inr (Or.inl q)
      · refine Or.inr (Or.inr ⟨o, k, n, ?_⟩)
        rw [ek 11 o (by decide)]; exact q
    · rw [a3]; exact c3
theorem pl_act : Pl_act RL := by
  intro δ σ σm x h x1 x2 x3
  obtain ⟨G, w, tr, sh, h⟩ := h
  have hn := h.n
  have start : TrC x (0, σ.1 4 x) σ (tI σ 3 x 1 0) := ⟨by rw [tI_s, pk_us]; rfl, fun i _ => by rw [tI_n _ _ _ (fun z => absurd z.1 (by decide))], rfl, fun k i hk => tI_n _ _ _ (fun z => hk ⟨z.2, Or.inl z.1⟩)⟩
  have startM : TrM (0, σ.1 4 x) σm (sF σm 36 0) := ⟨sF_s _ _ _, fun i hi => (h.bod i hi).symm, fun k hk => sF_n _ _ hk, fun _ _ => rfl, rfl⟩
  have rl0 := (h.act (Nat.zero_le _) start startM).rl
  have h1 := h.act (Nat.zero_le _) start startM
  unfold xw_S_act
  rintro σ1 rfl
  have mact : ∀ (K : Int32 → MSt → Prop), mw_isThing (sF σm 36 0) (fun r2 => ((r2 = 0) → (K 0 (sF σm 36 0))) ∧ ((¬ (r2 = 0)) → (((x2 < 0) → (K 0 (sF σm 36 0))) ∧ ((¬ (x2 < 0)) → (((x2 ≤ 2) → (((¬ (x2 = 0)) → (((¬ (x2 = 1)) → (mw_hiding (fun r8 σ9 => K r8 σ9) x1 x3 (sF σm 36 0))) ∧ ((x2 = 1) → (mw_looking (fun r10 σ11 => K r10 σ11) x1 x3 (sF σm 36 0))))) ∧ ((x2 = 0) → (mw_standing (fun r12 σ13 => K r12 σ13) x1 x3 (sF σm 36 0))))) ∧ ((¬ (x2 ≤ 2)) → (K 0 (sF σm 36 0)))))))) x1 → mw_act K x1 x2 x3 σm := by
    intro K hh
    unfold mw_act
    rintro σ1 rfl
    exact hh
  refine ⟨w, h1.wE, xp_isThing h1.rc hn (fun c => ⟨fun z => absurd rfl z, fun _ => mact _ (mp_thing_f h1.rm hn c ⟨fun _ => ⟨rfl, rl0⟩, fun z => absurd rfl z⟩)⟩) (fun t ht e => ⟨fun _ => ?_, fun z => absurd z (by decide)⟩)⟩
  subst e
  have t8 : t < 8 := by omega
  have h6 := (h.u.2.2.1 t ht).1
  obtain ⟨-, -, o, e8, -, ec, e0, e1, e2, e3⟩ := h.rc.2.2.2.2.2.2 t ht
  rw [pcl t8]
  refine ⟨pin t8, o, e8, fun c => mact _ (mp_thing_t h1.rm hn ht ⟨fun z => absurd z (by decide), fun _ => ⟨fun _ => ⟨rfl, rl0⟩, fun a => ⟨fun b => ?_, fun _ => ⟨rfl, rl0⟩⟩⟩⟩), fun c => ?_, fun c => ?_, fun c => ?_⟩
  · exfalso
    rcases c with c | c
    · exact a c
    · exact absurd b (Int32.not_le.mpr c)
  · subst c
    refine xa_standing ec h6 (by show 0 + 3 ≤ 20; decide) start e0 e3 (fun σ' h' => mact _ (mp_thing_t h1.rm hn ht ⟨fun z => absurd z (by decide), fun _ => br_f (by decide) (br_t (by decide) ⟨fun z => absurd rfl z, fun _ => ma_standing h.u h.rm ht (by show 0 + 3 ≤ 20; decide) startM (fun u' m' => ⟨rfl, (h.act ?_ h' m').rl⟩)⟩)⟩))
    exact Nat.le_trans (sB_n _ _) (by show 0 + 3 ≤ 20; decide)
  · subst c
    refine xa_looking ec h6 (by show 0 + 6 ≤ 20; decide) start e0 e3 (fun σ' h' => mact _ (mp_thing_t h1.rm hn ht ⟨fun z => absurd z (by decide), fun _ => br_f (by decide) (br_t (by decide) ⟨fun _ => ⟨fun z => absurd rfl z, fun _ => ma_looking h.u h.rm ht (by show 0 + 6 ≤ 20; decide) startM (fun u' m' => ⟨rfl, (h.act ?_ h' m').rl⟩)⟩, fun z => absurd z (by decide)⟩)⟩))
    exact Nat.le_trans (lB_n _ _) (by show 0 + 6 ≤ 20; decide)
  · subst c
    refine xa_hiding ec h6 (by show 0 + 11 ≤ 20; decide) start e0 e3 (fun σ' h' => mact _ (mp_thing_t h1.rm hn ht ⟨fun z => absurd z (by decide), fun _ => br_f (by decide) (br_t (by decide) ⟨fun _ => ⟨fun _ => ma_hiding h.u h.rm ht (by show 0 + 11 ≤ 20; decide) startM (fun u' m' => ⟨rfl, (h.act ?_ h' m').rl⟩), fun z => absurd z (by decide)⟩, fun z => absurd z (by decide)⟩)⟩))
    unfold hB
    refine Nat.le_trans (sB_n _ _) (Nat.le_trans (Nat.add_le_add_right (lB_n _ _) 3) ?_)
    show (if gK G t = 4 then rn 50 (0, σ.1 4 x) else if gK G t = 5 then rn 60 (0, σ.1 4 x) else (0, σ.1 4 x)).1 + 1 + 6 + 3 ≤ 20
    by_cases c4 : gK G t = 4
    · rw [if_pos c4]; show 0 + 1 + 1 + 6 + 3 ≤ 20; decide
    · rw [if_neg c4]
      by_cases c5 : gK G t = 5
      · rw [if_pos c5]; show 0 + 1 + 1 + 6 + 3 ≤ 20; decide
      · rw [if_neg c5]; show 0 + 1 + 6 + 3 ≤ 20; decide
