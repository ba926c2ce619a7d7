/-! writes to the ground -/
theorem tI_s (σ : XSt) (k i j : Nat) (v : Int32) : (tI σ k i j v).1 k i = upd (σ.1 k i) j v := by simp [tI]
theorem tI_n (σ : XSt) {k i k' i' : Nat} (j : Nat) (v : Int32) (h : ¬ (k' = k ∧ i' = i)) : (tI σ k i j v).1 k' i' = σ.1 k' i' := by
  show (if k' = k ∧ i' = i then _ else _) = _
  rw [if_neg h]
theorem tP_s (σ : XSt) (k i j : Nat) (v : Option Nat) : (tP σ k i j v).2.2 k i = va_up (σ.2.2 k i) j v := by simp [tP]
theorem tP_n (σ : XSt) {k i k' i' : Nat} (j : Nat) (v : Option Nat) (h : ¬ (k' = k ∧ i' = i)) : (tP σ k i j v).2.2 k' i' = σ.2.2 k' i' := by
  show (if k' = k ∧ i' = i then _ else _) = _
  rw [if_neg h]
theorem upd_e {f : Nat → Int32} {k j : Nat} {v : Int32} : upd f k v j = if j = k then v else f j := by
  by_cases h : j = k
  · subst h; rw [pk_us, if_pos rfl]
  · rw [pk_un h, if_neg h]
theorem vup_e {α : Type} {f : Nat → α} {k j : Nat} {v : α} : va_up f k v j = if j = k then v else f j := by
  by_cases h : j = k
  · subst h; rw [va_up_self, if_pos rfl]
  · rw [va_up_ne _ _ h, if_neg h]
theorem Kp.tI {g k j : Nat} {v : Int32} {δ : XSh} {σ : XSt} (hk : isG k) : Kp g δ σ δ (tI σ k g j v) := ⟨Ext.rf, fun k' i' _ hn => ⟨tI_n σ j v (fun z => hn ⟨z.2, by rw [z.1]; exact hk⟩), rfl, rfl⟩⟩
theorem Kp.tP {g k j : Nat} {v : Option Nat} {δ : XSh} {σ : XSt} (hk : isG k) : Kp g δ σ δ (tP σ k g j v) := ⟨Ext.rf, fun k' i' _ hn => ⟨rfl, rfl, tP_n σ j v (fun z => hn ⟨z.2, by rw [z.1]; exact hk⟩)⟩⟩
/-- of the model all is kept but the ground -/
def Mg (σm σm' : MSt) : Prop := (∀ k, k = 5 ∨ k = 36 ∨ k = 37 → σm'.1 k = σm.1 k) ∧ (∀ a, a = 6 ∨ (14 ≤ a ∧ a ≤ 17) ∨ a = 20 ∨ a = 28 ∨ a = 35 → σm'.2.1 a = σm.2.1 a) ∧ σm'.2.2 18 = σm.2.2 18
theorem Mg.rf {σm : MSt} : Mg σm σm := ⟨fun _ _ => rfl, fun _ _ => rfl, rfl⟩
theorem Mg.tr {a b c : MSt} (h : Mg a b) (g : Mg b c) : Mg a c := ⟨fun k hk => (g.1 k hk).trans (h.1 k hk), fun k hk => (g.2.1 k hk).trans (h.2.1 k hk), g.2.2.trans h.2.2⟩
theorem Ms.mg {a b : MSt} (h : Ms a b) : Mg a b := ⟨fun k hk => h.1 k (by omega), fun k hk => h.2.1 k (by omega), h.2.2⟩
theorem Mg.sF {σm : MSt} {k : Nat} {v : Int32} (h : ¬ (k = 5 ∨ k = 36 ∨ k = 37)) : Mg σm (sF σm k v) := ⟨fun k' hk => pk_un (fun e => h (e ▸ hk)), fun _ _ => rfl, rfl⟩
theorem Mg.sI {σm : MSt} {a i : Nat} {v : Int32} (h : ¬ (a = 6 ∨ (14 ≤ a ∧ a ≤ 17) ∨ a = 20 ∨ a = 28 ∨ a = 35)) : Mg σm (sI σm a i v) := ⟨fun _ _ => rfl, fun a' ha => va_up_ne _ _ (fun e => h (e ▸ ha)), rfl⟩
theorem Ms.sF {σm : MSt} {k : Nat} {v : Int32} (h : ¬ (k ≤ 5 ∨ k = 36 ∨ k = 37)) : Ms σm (sF σm k v) := ⟨fun k' hk => pk_un (fun e => h (e ▸ hk)), fun _ _ => rfl, rfl⟩
theorem Ms.sI {σm : MSt} {a i : Nat} {v : Int32} (h : ¬ ((6 ≤ a ∧ a ≤ 17) ∨ a = 20 ∨ a = 28 ∨ a = 35)) : Ms σm (sI σm a i v) := ⟨fun _ _ => rfl, fun a' ha => va_up_ne _ _ (fun e => h (e ▸ ha)), rfl⟩
theorem Ms.sJ {σm : MSt} {a i : Nat} {v : Int64} (h : ¬ a = 18) : Ms σm (sJ σm a i v) := ⟨fun _ _ => rfl, fun _ _ => rfl, va_up_ne _ _ (fun e => h e.symm)⟩
theorem RQ.upd {G G' : Gd} {tr x w : Nat} {sh : Nat → Nat} {δ δ' : XSh} {σ σ' : XSt} {σm σm' : MSt} (h : RQ G w tr sh δ σ σm x) (hW : gW G') (hM : RM G' σm') (hC : RC G' δ' σ' w) (hK : Kp w δ σ δ' σ') (hle : gN G ≤ gN G') (h8 : ∀ t, t < gN G → σ'.2.2 8 w t = σ.2.2 8 w t) (hg : Mg σm σm') : RQ G' w tr sh δ' σ' σm' x := by
  obtain ⟨h1, h2, h3, ⟨⟨m0, m1, m2, m3, m4⟩, b1, b2, b3, b4, b5, b6, b7, b8, b9, b10, b11⟩, ⟨c1, c2, c3⟩⟩ := h
  have e0 := hK.2 0 x m0 (n7 (by decide))
  have e1 := hK.2 1 x m1 (n7 (by decide))
  have e2 := hK.2 2 x m2 (n7 (by decide))
  have e3 := hK.2 3 x m3 (n7 (by decide))
  have e4 := hK.2 4 x m4 (n7 (by decide))
  refine ⟨hW, hM, hC, ⟨⟨hK.1.m m0, hK.1.m m1, hK.1.m m2, hK.1.m m3, hK.1.m m4⟩, b1.m hK.1, b2.m hK.1, b3, ?_, ?_, ?_, ?_, ?_, ?_, ?_, ?_⟩, ⟨fun s hs => ?_, c2, fun s s' o hs hs' => ?_⟩⟩
  · rw [e0.2.2]; exact b4
  · rw [e0.2.2]; exact b5
  · rw [e2.1, hg.2.1 6 (by decide)]; exact b6
  · rw [e0.1, hg.1 5 (by decide)]; exact b7
  · rw [e3.1, hg.1 36 (by decide)]; exact b8
  · rw [e4.1, hg.2.1 35 (by decide)]; exact b9
  · rw [hg.2.1 20 (by decide)]; exact b10
  · unfold IM
    rw [e0.2.2, hg.1 37 (by decide), hg.2.1 28 (by decide)]
    rcases b11 with q | ⟨im, GI, a1, a2, a3, a4, a5, a6, a7⟩
    · exact Or.inl q
    · exact Or.inr ⟨im, GI, a1, a2, a3, a4.m hK.1, a5, a6.kp a4 a3 hK, a7⟩
  · obtain ⟨q1, q2, q3⟩ := c1 s hs
    rw [e1.2.2]
    refine ⟨q1, hK.1.m q2, ?_⟩
    have e5 := (hK.2 5 (sh s) q2 (n7 (by decide))).2.2
    unfold HR
    rw [e5, hg.2.1 14 (by decide), hg.2.1 17 (by decide)]
    rcases q3 with q | ⟨o, t, a1, a2, a3, a4⟩ | ⟨o, k, n, a1, a2⟩
    · exact Or.inl q
    · exact Or.inr (Or.inl ⟨o, t, a1, by omega, by rw [h8 t a2]; exact a3, a4⟩)
    · refine Or.inr (Or.inr ⟨o, k, n, a1, ?_⟩)
      have := a2.kp hK
      unfold HRr at this ⊢
      rw [hg.2.1 14 (by decide), hg.2.1 15 (by decide), hg.2.1 16 (by decide), hg.2.2]
      exact this
  · have f1 := (c1 s hs).2
    have f2 := (c1 s' hs').2
    rw [(hK.2 5 (sh s) f1.1 (n7 (by decide))).2.2, (hK.2 5 (sh s') f2.1 (n7 (by decide))).2.2]
    intro q1 q2 q3
    have hr := f1.2.role h3 q1
    rw [(hK.1.2 o hr).1] at q3
    exact c3 s s' o hs hs' q1 q2 q3
/-! the ground with one thing set -/
def setF (G : Gd) (a : Nat) (v : Int32) : Gd := (G.1, fun k => if k = a then v else G.2.1 k, G.2.2)
def setV (G : Gd) (a i : Nat) (v : Int32) : Gd := (G.1, G.2.1, G.2.2.1, fun b t => if b = a ∧ t = i then v else G.2.2.2.1 b t, G.2.2.2.2)
def setC (G : Gd) (f : Nat → Bool) : Gd := (G.1, G.2.1, G.2.2.1, G.2.2.2.1, f, G.2.2.2.2.2)
def setS (G : Gd) (f : Nat → Nat → Bool) : Gd := (G.1, G.2.1, G.2.2.1, G.2.2.2.1, G.2.2.2.2.1, f)
section PU
variable {G : Gd} {δ : XSh} {σ : XSt} {σm : MSt} {g : Nat} {v : Int32}
theorem RC.far (h : RC G δ σ g) : RC (setF G 1 v) δ (tI σ 6 g 2 v) g := by
  obtain ⟨h0, h1, h2, h3, h4, h5, h6⟩ := h
  unfold RC
  rw [tI_s]
  simp only [upd_e]
  exact ⟨h0, h1, rfl, h3, h4, h5, h6⟩
theorem RC.sum (h : RC G δ σ g) : RC (setF G 0 v) δ (tI σ 6 g 1 v) g := by
  obtain ⟨h0, h1, h2, h3, h4, h5, h6⟩ := h
  unfold RC
  rw [tI_s]
  simp only [upd_e]
  exact ⟨h0, rfl, h2, h3, h4, h5, h6⟩
theorem RC.fin (h : RC G δ σ g) : RC (setF G 2 v) δ (tI σ 6 g 4 v) g := by
  obtain ⟨h0, h1, h2, h3, h4, h5, h6⟩ := h
  unfold RC
  rw [tI_s]
  simp only [upd_e]
  exact ⟨h0, h1, h2, h3, rfl, h5, h6⟩
theorem RC.see (h : RC G δ σ g) : RC (setF G 3 v) δ (tI σ 6 g 5 v) g := by
  obtain ⟨h0, h1, h2, h3, h4, h5, h6⟩ := h
  unfold RC
  rw [tI_s]
  simp only [upd_e]
  exact ⟨h0, h1, h2, h3, h4, rfl, h6⟩
theorem RC.cur {f : Nat → Bool} (h : RC G δ σ g) (hv : v = bm f (gN G)) : RC (setC G f) δ (tI σ 6 g 3 v) g := by
  obtain ⟨h0, h1, h2, h3, h4, h5, h6⟩ := h
  unfold RC
  rw [tI_s]
  simp only [upd_e]
  exact ⟨h0, h1, h2, hv, h4, h5, h6⟩
theorem RC.hei {i : Nat} (h : RC G δ σ g) : RC (setV G 4 i v) δ (tI σ 9 g i v) g := by
  obtain ⟨h0, h1, h2, h3, h4, h5, h6⟩ := h
  refine ⟨h0, h1, h2, h3, h4, h5, fun t ht => ?_⟩
  obtain ⟨a1, a2, o, a3, a4, a5, a6, a7, a8, a9⟩ := h6 t ht
  refine ⟨?_, a2, o, a3, a4, a5, a6, a7, a8, a9⟩
  rw [tI_s, upd_e]
  show _ = if 4 = 4 ∧ t = i then v else gV G 4 t
  by_cases q : t = i
  · rw [if_pos q, if_pos ⟨rfl, q⟩]
  · rw [if_neg q, if_neg (fun z => q z.2)]; exact a1
theorem RC.shu {j : Nat} {f : Nat → Nat → Bool} (h : RC G δ σ g) (hf : ∀ t a, t < gN G → a < gN G → t ≠ j → f a t = gS G a t) (hv : v = bm (fun a => f a j) (gN G)) : RC (setS G f) δ (tI σ 10 g j v) g := by
  obtain ⟨h0, h1, h2, h3, h4, h5, h6⟩ := h
  refine ⟨h0, h1, h2, h3, h4, h5, fun t ht => ?_⟩
  obtain ⟨a1, a2, o, a3⟩ := h6 t ht
  refine ⟨a1, ?_, o, a3⟩
  rw [tI_s, upd_e]
  show _ = bm (fun a => f a t) (gN G)
  by_cases q : t = j
  · rw [if_pos q, hv, q]
  · rw [if_neg q, a2]
    exact bm_congr (fun a ha => (hf t a ht ha q).symm)
theorem RM.fld {a : Nat} (ha : a = 0 ∨ a = 1 ∨ a = 2 ∨ a = 3) (h : RM G σm) : RM (setF G a v) (sF σm (a + 1) v) := by
  obtain ⟨h0, h1, h2, h3, h4, h5⟩ := h
  unfold RM sF
  rcases ha with rfl | rfl | rfl | rfl <;> simp only [upd_e]
  · exact ⟨h0, rfl, h2, h3, h4, h5⟩
  · exact ⟨h0, h1, rfl, h3, h4, h5⟩
  · exact ⟨h0, h1, h2, rfl, h4, h5⟩
  · exact ⟨h0, h1, h2, h3, rfl, h5⟩
theorem sI_s (σm : MSt) (a i : Nat) (v : Int32) : (sI σm a i v).2.1 a = upd (σm.2.1 a) i v := va_up_self _ _ _
theorem sI_n (σm : MSt) {a b : Nat} (i : Nat) (v : Int32) (h : b ≠ a) : (sI σm a i v).2.1 b = σm.2.1 b := va_up_ne _ _ h
theorem RM.hei {i : Nat} (h : RM G σm) : RM (setV G 4 i v) (sI σm 10 i v) := by
  obtain ⟨h0, h1, h2, h3, h4, h5⟩ := h
  refine ⟨h0, h1, h2, h3, h4, fun t ht => ?_⟩
  obtain ⟨a1, a2, a3, a4, a5, a6, a7⟩ := h5 t ht
  refine ⟨a1, a2, a3, ?_, a5, a6, a7⟩
  rw [sI_s, upd_e]
  show _ = if 4 = 4 ∧ t = i then v else gV G 4 t
  by_cases q : t = i
  · rw [if_pos q, if_pos ⟨rfl, q⟩]
  · rw [if_neg q, if_neg (fun z => q z.2)]; exact a4
theorem RM.cur {i : Nat} {f : Nat → Bool} (h : RM G σm) (hf : ∀ t, t < gN G → t ≠ i → f t = gC G t) (hv : v = bI (f i)) : RM (setC G f) (sI σm 12 i v) := by
  obtain ⟨h0, h1, h2, h3, h4, h5⟩ := h
  refine ⟨h0, h1, h2, h3, h4, fun t ht => ?_⟩
  obtain ⟨a1, a2, a3, a4, a5, a6, a7⟩ := h5 t ht
  refine ⟨a1, a2, a3, a4, a5, ?_, a7⟩
  rw [sI_s, upd_e]
  show _ = bI (f t)
  by_cases q : t = i
  · rw [if_pos q, hv, q]
  · rw [if_neg q, hf t ht q]; exact a6
theorem RM.shu {i : Nat} {f : Nat → Nat → Bool} (h : RM G σm) (hf : ∀ t a, t < gN G → a < gN G → t ≠ i → f t a = gS G t a) (hv : v = bm (f i) (gN G)) : RM (setS G f) (sI σm 13 i v) := by
  obtain ⟨h0, h1, h2, h3, h4, h5⟩ := h
  refine ⟨h0, h1, h2, h3, h4, fun t ht => ?_⟩
  obtain ⟨a1, a2, a3, a4, a5, a6, a7⟩ := h5 t ht
  refine ⟨a1, a2, a3, a4, a5, a6, ?_⟩
  rw [sI_s, upd_e]
  show _ = bm (f t) (gN G)
  by_cases q : t = i
  · rw [if_pos q, hv, q]
  · rw [if_neg q, a7]
    exact bm_congr (fun a ha => (hf t a ht ha q).symm)
theorem gW.see (h : gW G) : gW (setF G 3 v) := h
theorem gW.fin (h : gW G) : gW (setF G 2 v) := h
theorem gW.sum (h : gW G) (hv : v = 0 ∨ v = 1) : gW (setF G 0 v) := ⟨h.1, hv, h.2.2⟩
theorem gW.far (h : gW G) (hv : ∃ a, 1 ≤ a ∧ a ≤ 9 ∧ v = nI a) : gW (setF G 1 v) := ⟨h.1, h.2.1, hv, h.2.2.2⟩
theorem gW.cur {f : Nat → Bool} (h : gW G) : gW (setC G f) := h
theorem gW.shu {f : Nat → Nat → Bool} (h : gW G) : gW (setS G f) := h
theorem gW.hei {i : Nat} (h : gW G) (hv : ∃ a, a ≤ 20 ∧ v = nI a) : gW (setV G 4 i v) := by
  refine ⟨h.1, h.2.1, h.2.2.1, fun t ht => ?_, h.2.2.2.2⟩
  obtain ⟨a1, a2, a3, a4, a5⟩ := h.2.2.2.1 t ht
  refine ⟨a1, a2, a3, a4, ?_⟩
  show ∃ a, a ≤ 20 ∧ (if 4 = 4 ∧ t = i then v else gV G 4 t) = nI a
  by_cases q : t = i
  · rw [if_pos ⟨rfl, q⟩]; exact hv
  · rw [if_neg (fun z => q z.2)]; exact a5
end PU
theorem ig6 : isG 6 := Or.inl rfl
theorem ig8 : isG 8 := Or.inr (Or.inl rfl)
theorem ig9 : isG 9 := Or.inr (Or.inr (Or.inl rfl))
theorem ig10 : isG 10 := Or.inr (Or.inr (Or.inr rfl))
theorem pl_seed : Pl_seed RL := by
  intro δ σ σm x h x1
  obtain ⟨G, w, tr, sh, h⟩ := h
  refine ⟨w, h.wE, ?_⟩
  rintro σ2 rfl
  unfold mw_seed
  rintro σ1 rfl
  refine ⟨?_, (h.upd h.1.see (h.rm.fld (a := 3) (by decide)) h.rc.see (Kp.tI ig6) (Nat.le_refl _) (fun _ _ => rfl) (Mg.sF (by decide))).rl⟩
  rw [h.rc.2.2.2.2.2.1, h.rm.2.2.2.2.1]
theorem pl_status : Pl_status RL := by
  intro δ σ σm x h x1
  obtain ⟨G, w, tr, sh, h⟩ := h
  have hn := h.n
  obtain ⟨c0, c1, c2, c3, c4, c5, -⟩ := h.rc
  obtain ⟨m0, m1, m2, m3, m4, -⟩ := h.rm
  obtain ⟨nr, hnr, r1, r2⟩ := h.ran
  have small : ∀ j : Nat, j ≤ 8 → x1 = nI j → ∀ r, mw_status_22 σm (fun r2 => r = r2 ∧ RL δ σ σm x) x1 → mw_status σm (fun r2 => r = r2 ∧ RL δ σ σm x) x1 := by
    intro j hj e r hh
    unfold mw_status
    refine br_t ?_ hh
    rw [e]
    have : ∀ j, j ≤ 8 → nI j < 11 := by decide
    exact this j hj
  have sw : ∀ j : Nat, j ≤ 8 → ∀ (i : Nat) (q : Int32), i ≤ 8 → q = nI i → nI j = q → j = i := by
    intro j hj i q hi hq e
    rw [hq] at e
    exact (nI_eq (by omega) (by omega)).mp e
  have no : ∀ j : Nat, j ≤ 8 → ¬ (nI j < 0 ∨ 8 < nI j) := by decide
  unfold xw_S_status
  refine ⟨fun c => ?_, fun e => ⟨w, h.wE, ?_⟩, fun e => ⟨w, h.wE, ?_⟩, fun e => ⟨w, h.wE, ?_⟩, fun e => ⟨w, h.wE, ?_⟩, fun e => ⟨w, h.wE, ?_⟩, fun e => ⟨w, h.wE, ?_⟩, fun e => ⟨w, h.wE, ?_⟩, fun e => ⟨w, h.wE, ?_⟩, fun e => ?_⟩
  · have m22 : mw_status_22 σm (fun r2 => (-1 : Int32) = r2 ∧ RL δ σ σm x) x1 := by
      unfold mw_status_22
      refine ⟨fun _ => ⟨rfl, h.rl⟩, ?_⟩
      refine ⟨?_, ?_, ?_, ?_, ?_, ?_, ?_, ?_, ?_⟩ <;> (intro e; rw [e] at c; exact absurd c (by decide))
    refine xp_in (y := 11) (z := 17) (fun d => ⟨fun _ => ?_, fun z => absurd rfl z⟩) (fun d f => ⟨fun z => absurd z (by decide), fun _ => ?_⟩)
    · unfold mw_status
      refine ⟨fun _ => m22, fun d1 => ⟨fun _ => m22, fun d2 => ?_⟩⟩
      rcases d with d | d
      · exact absurd d d1
      · exact absurd d d2
    · obtain ⟨j, hj, e⟩ : ∃ j, j ≤ 17 ∧ x1 = nI j := nI_of2 (M := 17) (by decide) (fun z => d (by
        rw [Int32.lt_iff_toInt_lt] at z ⊢
        have e1 : (11 : Int32).toInt = 11 := by decide
        have e0 : (0 : Int32).toInt = 0 := by decide
        omega)) (Int32.not_lt.mp f)
      have hj11 : 11 ≤ j := by
        rcases Nat.lt_or_ge j 11 with z | z
        · exact absurd (by rw [e]; exact nI_lt (b := 11) z (by decide)) d
        · exact z
      have es : x1 - 10 = nI (j - 10) := by rw [e]; exact pk_sub (a := j) (b := 10) (by omega)
      rw [es, pcl (by omega)]
      refine ⟨pin (by omega), ?_⟩
      unfold mw_status
      rw [es, pcl (by omega)]
      exact br_f d (br_f f ⟨pin (by omega), h.re (j - 10) (by omega) (by omega), h.rl⟩)
  · refine small 0 (by decide) e _ ?_
    subst e
    unfold mw_status_22
    refine ⟨fun c => absurd c (by decide), fun _ => ⟨c0.trans m0.symm, h.rl⟩, ?_, ?_, ?_, ?_, ?_, ?_, ?_, ?_⟩ <;> exact fun z => absurd z (by decide)
  · refine xp_houses h.rc h.u (small 1 (by decide) e _ ?_)
    subst e
    unfold mw_status_22
    refine ⟨fun c => absurd c (by decide), fun z => absurd z (by decide), fun _ => mp_houses h.u h.rm ⟨rfl, h.rl⟩, ?_, ?_, ?_, ?_, ?_, ?_, ?_⟩ <;> exact fun z => absurd z (by decide)
  · have key : ∀ r, r = gF G 0 → mw_status σm (fun r2 => r = r2 ∧ RL δ σ σm x) x1 := by
      intro r hr
      refine small 2 (by decide) e _ ?_
      subst e
      unfold mw_status_22
      refine ⟨fun c => absurd c (by decide), fun z => absurd z (by decide), fun z => absurd z (by decide), fun _ => ⟨hr.trans m1.symm, h.rl⟩, ?_, ?_, ?_, ?_, ?_, ?_⟩ <;> exact fun z => absurd z (by decide)
    rw [c1]
    rcases h.1.2.1 with f | f
    · rw [f]; exact ⟨fun _ => key _ f.symm, fun z => absurd rfl z⟩
    · rw [f]; exact ⟨fun z => absurd z (by decide), fun _ => key _ f.symm⟩
  · refine small 3 (by decide) e _ ?_
    subst e
    unfold mw_status_22
    refine ⟨fun c => absurd c (by decide), fun z => absurd z (by decide), fun z => absurd z (by decide), fun z => absurd z (by decide), fun _ => ⟨c2.trans m2.symm, h.rl⟩, ?_, ?_, ?_, ?_, ?_⟩ <;> exact fun z => absurd z (by decide)
  · refine xp_shutters h.rc hn (small 4 (by decide) e _ ?_)
    subst e
    unfold mw_status_22
    refine ⟨fun c => absurd c (by decide), fun z => absurd z (by decide), fun z => absurd z (by decide), fun z => absurd z (by decide), fun z => absurd z (by decide), fun _ => mp_shutMany h.rm hn ⟨shut_rc G hn, h.rl⟩, ?_, ?_, ?_, ?_⟩ <;> exact fun z => absurd z (by decide)
  · rw [c3]
    refine xp_bitCount (sm_bm _ hn) (small 5 (by decide) e _ ?_)
    subst e
    unfold mw_status_22
    refine ⟨fun c => absurd c (by decide), fun z => absurd z (by decide), fun z => absurd z (by decide), fun z => absurd z (by decide), fun z => absurd z (by decide), fun z => absurd z (by decide), fun _ => mp_drawnOnes h.rm hn (mp_many (sm_bm _ hn) ⟨rfl, h.rl⟩), ?_, ?_, ?_⟩ <;> exact fun z => absurd z (by decide)
  · refine small 6 (by decide) e _ ?_
    subst e
    unfold mw_status_22
    refine ⟨fun c => absurd c (by decide), fun z => absurd z (by decide), fun z => absurd z (by decide), fun z => absurd z (by decide), fun z => absurd z (by decide), fun z => absurd z (by decide), fun z => absurd z (by decide), fun _ => ⟨c4.trans m3.symm, h.rl⟩, ?_, ?_⟩ <;> exact fun z => absurd z (by decide)
  · refine small 7 (by decide) e _ ?_
    subst e
    unfold mw_status_22
    refine ⟨fun c => absurd c (by decide), fun z => absurd z (by decide), fun z => absurd z (by decide), fun z => absurd z (by decide), fun z => absurd z (by decide), fun z => absurd z (by decide), fun z => absurd z (by decide), fun z => absurd z (by decide), fun _ => ⟨c5.trans m4.symm, h.rl⟩, ?_⟩ <;> exact fun z => absurd z (by decide)
  · refine small 8 (by decide) e _ ?_
    subst e
    unfold mw_status_22
    refine ⟨fun c => absurd c (by decide), fun z => absurd z (by decide), fun z => absurd z (by decide), fun z => absurd z (by decide), fun z => absurd z (by decide), fun z => absurd z (by decide), fun z => absurd z (by decide), fun z => absurd z (by decide), fun z => absurd z (by decide), fun _ => ⟨r1.trans r2.symm, h.rl⟩⟩
