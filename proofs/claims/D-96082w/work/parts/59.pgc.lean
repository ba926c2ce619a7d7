/-! more calls that ask or set one thing -/
theorem in7 : ∀ k, k ≤ 6 → 5 + k ∈ [5, 6, 7, 8, 9, 10, 11] := by decide
theorem nin7 : ∀ k, k ≤ 3 → ¬ 12 + k ∈ [5, 6, 7, 8, 9, 10, 11] := by decide
theorem in4 : ∀ k, k ≤ 3 → 12 + k ∈ [12, 13, 14, 15] := by decide
theorem c4 {k : Nat} (h : k ≤ 3) : k = 0 ∨ k = 1 ∨ k = 2 ∨ k = 3 := by omega
section PCa
variable {G : Gd} {tr x w : Nat} {sh : Nat → Nat} {δ : XSh} {σ : XSt} {σm : MSt} {i j g : Nat} {x1 x2 : Int32}
theorem RQ.she (h : RQ G w tr sh δ σ σm x) {s : Nat} (hs : s < 8) : σ.2.2 1 x s = some (sh s) ∧ (5, sh s) ∈ δ.1 ∧ HR G δ σ σm w (sh s) s := h.2.2.2.2.1 s hs
/-- what a shelf holds, told for use -/
theorem RQ.held (h : RQ G w tr sh δ σ σm x) {s : Nat} (hs : s < 8) {P : Prop} (h0 : σ.2.2 5 (sh s) 0 = none → σm.2.1 14 s = 0 → P) (h2 : ∀ o t, σ.2.2 5 (sh s) 0 = some o → t < gN G → σ.2.2 8 w t = some o → (7, o) ∈ δ.1 → δ.2.2.1 o = 5 + gK G t → gK G t ≤ 6 → σ.1 7 o 0 = nI t → σm.2.1 14 s = 2 → σm.2.1 17 s = nI t → P) (h1 : ∀ o k n, σ.2.2 5 (sh s) 0 = some o → HRr δ σ σm s o k n → P) : P := by
  rcases (h.she hs).2.2 with ⟨a, b⟩ | ⟨o, t, a1, a2, a3, a4, a5⟩ | ⟨o, k, n, a1, a2⟩
  · exact h0 a b
  · obtain ⟨-, -, o', z1, z2, z3, z4, -⟩ := h.rc.2.2.2.2.2.2 t a2
    rw [a3] at z1
    cases z1
    exact h2 o t a1 a2 a3 z2 z3 (h.u.2.2.1 t a2).1 z4 a4 a5
  · exact h1 o k n a1 a2
variable {KM : Int32 → Prop}
theorem mp_shelf_t {s : Nat} (hs : s < 8) (hK : KM 1) : mw_isShelf σm KM (nI s) := br_f (nI_pos (by omega)) (br_f (nI_ge (b := 8) hs (by decide)) hK)
theorem mp_shelf_f (c : ¬ ∃ s, s < 8 ∧ x1 = nI s) (hK : KM 0) : mw_isShelf σm KM x1 := by
  refine ⟨fun _ => hK, fun a => ⟨fun _ => hK, fun b => ?_⟩⟩
  rcases pk_ix x1 (n := 8) (by decide) with q | q | ⟨i, hi, e⟩
  · exact absurd q a
  · exact absurd q b
  · exact absurd ⟨i, hi, e⟩ c
theorem mp_isShelf (h0 : (¬ ∃ s, s < 8 ∧ x1 = nI s) → KM 0) (h1 : ∀ s, s < 8 → x1 = nI s → KM 1) : mw_isShelf σm KM x1 := by
  by_cases c : ∃ s, s < 8 ∧ x1 = nI s
  · obtain ⟨s, hs, e⟩ := c
    subst e
    exact mp_shelf_t hs (h1 s hs rfl)
  · exact mp_shelf_f c (h0 c)
theorem xp_v_sort {o k : Nat} (hc : δ.2.2.1 o = 12 + k) (h3 : k ≤ 3) (hK : KM (nI k)) : xv_R_sort δ σ KM o := by
  rcases c4 h3 with e | e | e | e <;> subst e <;> (simp [xv_R_sort, hc, xw_By_sort, xw_So_sort, xw_In_sort, xw_Lo_sort]; exact hK)
theorem xp_v_kind {o : Nat} (hc : δ.2.2.1 o = 5 + gK G i) (h6 : gK G i ≤ 6) (hK : KM (nI (gK G i))) : xv_T_kind δ σ KM o := by
  rcases c7 h6 with e | e | e | e | e | e | e <;> rw [e] at hc hK <;> (simp [xv_T_kind, hc, xw_T_kind, xw_Ho_kind, xw_Te_kind, xw_To_kind, xw_Sy_kind, xw_Bl_kind, xw_Fi_kind]; exact hK)
end PCa
theorem pl_holds : Pl_holds RL := by
  intro δ σ σm x h x1
  obtain ⟨G, w, tr, sh, h⟩ := h
  unfold xw_S_holds
  by_cases cs : ∃ s, s < 8 ∧ x1 = nI s
  · obtain ⟨s, hs, e⟩ := cs
    subst e
    refine br_f (nI_pos (by omega)) (br_f (nI_ge (b := 8) hs (by decide)) ⟨pin hs, sh s, ?_⟩)
    rw [pcl hs]
    refine ⟨(h.she hs).1, h.held hs (fun a b => ?_) (fun o t a1 a2 a3 a4 a5 a6 a7 a8 a9 => ?_) (fun o k n a1 a2 => ?_)⟩
    · refine ⟨fun _ => ?_, fun o z => by rw [a] at z; cases z⟩
      unfold mw_holds
      refine mp_shelf_t hs ⟨fun z => absurd z (by decide), fun _ => ⟨pin hs, ?_⟩⟩
      rw [pcl hs, b]
      exact ⟨fun z => absurd rfl z, fun _ => ⟨rfl, h.rl⟩⟩
    · refine ⟨fun z => by (rw [a1] at z; cases z), fun o5 z => ⟨pin hs, sh s, (h.she hs).1, fun z => by (rw [a1] at z; cases z), fun o8 z8 => ?_⟩⟩
      rw [a1] at z8
      cases z8
      refine br_t (by rw [a5]; exact in7 _ a6) (br_f (by decide) ?_)
      unfold mw_holds
      refine mp_shelf_t hs ⟨fun z => absurd z (by decide), fun _ => ⟨pin hs, ?_⟩⟩
      rw [pcl hs, a8, a9]
      exact ⟨fun _ => ⟨pin hs, fun _ => ⟨pin hs, a7, h.rl⟩, fun z => absurd z (by decide)⟩, fun z => absurd z (by decide)⟩
    · obtain ⟨b1, b2, b3, b4, b5, b6, b7, b8, b9, b10⟩ := a2
      refine ⟨fun z => by (rw [a1] at z; cases z), fun o5 z => ⟨pin hs, sh s, (h.she hs).1, fun z => by (rw [a1] at z; cases z), fun o8 z8 => ?_⟩⟩
      rw [a1] at z8
      cases z8
      refine br_f (by rw [b3]; exact nin7 _ b4) (br_t rfl (xp_v_sort b3 b4 ?_))
      unfold mw_holds
      refine mp_shelf_t hs ⟨fun z => absurd z (by decide), fun _ => ⟨pin hs, ?_⟩⟩
      rw [pcl hs, b7, b8]
      exact ⟨fun _ => ⟨pin hs, fun z => absurd rfl z, fun _ => ⟨pin hs, rfl, h.rl⟩⟩, fun z => absurd z (by decide)⟩
  · have main : mw_holds σm (fun r2 => (-1 : Int32) = r2 ∧ RL δ σ σm x) x1 := by
      unfold mw_holds
      exact mp_shelf_f cs ⟨fun _ => ⟨rfl, h.rl⟩, fun z => absurd rfl z⟩
    refine ⟨fun _ => main, fun a => ⟨fun _ => main, fun b => ?_⟩⟩
    rcases pk_ix x1 (n := 8) (by decide) with q | q | ⟨i, hi, e⟩
    · exact absurd q a
    · exact absurd q b
    · exact absurd ⟨i, hi, e⟩ cs
theorem pl_height : Pl_height RL := by
  intro δ σ σm x h x1 x2
  obtain ⟨G, w, tr, sh, h⟩ := h
  have hn := h.n
  unfold xw_S_height xw_S_height_41 mw_height mw_height_24
  refine xp_mustThing h (fun c q δ1 σ1 hN => xp_refuse 1 (by decide) (by decide) h hN (fun σ2 hr => ?_)) (fun i hi e => ?_)
  · exact mp_thing_f h.rm hn c ⟨fun z => absurd rfl z, fun _ => mp_no 1 (by decide) (by decide) ⟨rfl, hr⟩⟩
  · subst e
    have h8 : i < 8 := by omega
    refine xp_in (y := 0) (z := 20) (fun c => xp_need (b := false) (fun _ q δ1 σ1 hN => xp_refuse 6 (by decide) (by decide) h hN (fun σ2 hr => ?_)) (fun z => by cases z)) (fun c d => xp_need (b := true) (fun z => by cases z) (fun _ => ⟨w, h.wE, ?_⟩))
    · refine mp_thing_t h.rm hn hi ⟨fun _ => ⟨fun _ => mp_no 6 (by decide) (by decide) ⟨rfl, hr⟩, fun a => ⟨fun b => ?_, fun _ => mp_no 6 (by decide) (by decide) ⟨rfl, hr⟩⟩⟩, fun z => absurd z (by decide)⟩
      rcases c with c | c
      · exact absurd c a
      · exact absurd b (Int32.not_le.mpr c)
    · rw [pcl h8]
      refine ⟨pin h8, pin h8, ?_⟩
      rintro σ2 rfl
      have hb : ∃ a, a ≤ 20 ∧ x2 = nI a := nI_of2 (M := 20) (by decide) c (Int32.not_lt.mp d)
      refine mp_thing_t h.rm hn hi ⟨fun _ => br_f c (br_t (Int32.not_lt.mp d) ⟨pin h8, pin h8, ?_⟩), fun z => absurd z (by decide)⟩
      rintro σ3 rfl
      refine ⟨?_, (h.upd (h.1.hei (i := i) hb) h.rm.hei h.rc.hei (Kp.tI ig9) (Nat.le_refl _) (fun _ _ => rfl) (Mg.sI (by decide))).rl⟩
      rw [(h.rc.2.2.2.2.2.2 i hi).1, (h.rm.2.2.2.2.2 i hi).2.2.2.1]
theorem pl_sees : Pl_sees RL := by
  intro δ σ σm x h x1 x2 x3
  obtain ⟨G, w, tr, sh, h⟩ := h
  have hn := h.n
  have no1 : (¬ ∃ i j, i < gN G ∧ j < gN G ∧ x1 = nI i ∧ x2 = nI j) → ∀ q δ1 σ1, NewRe (-nI 1) δ σ q δ1 σ1 → xw_S_refused δ1 (fun r σ2 => mw_sees (fun r2 u => r = r2 ∧ RL δ1 σ2 u x) x1 x2 x3 σm) x q σ1 := fun c q δ1 σ1 hN => xp_refuse 1 (by decide) (by decide) h hN (fun σ2 hr => by
    unfold mw_sees mw_sees_26 mw_sees_40
    exact mp_barredTwo_1 h.rm h.u c ⟨fun _ => ⟨fun _ => ⟨fun z => absurd z (by decide), fun _ => mp_no 1 (by decide) (by decide) ⟨rfl, hr⟩⟩, fun z => absurd z (by decide)⟩, fun z => absurd z (by decide)⟩)
  unfold xw_S_sees xw_S_sees_26 xw_S_sees_27 xw_S_sees_57 xw_S_sees_58 xw_S_sees_85 xw_S_sees_115 xw_S_sees_128
  refine ⟨w, h.wE, xp_isThing h.rc hn (fun c => ⟨fun _ => ?_, fun z => absurd rfl z⟩) (fun i hi e => ⟨fun z => absurd z (by decide), fun _ => xp_isThing h.rc hn (fun c => ⟨fun _ => ?_, fun z => absurd rfl z⟩) (fun j hj e' => ⟨fun z => absurd z (by decide), fun _ => ?_⟩)⟩)⟩
  · refine xp_need (b := false) (fun _ => no1 ?_) (fun z => by cases z)
    rintro ⟨i, j, hi, hj, e1, e2⟩
    exact c ⟨i, hi, e1⟩
  · refine xp_need (b := false) (fun _ => no1 ?_) (fun z => by cases z)
    rintro ⟨i, j, hi, hj, e1, e2⟩
    exact c ⟨j, hj, e2⟩
  · refine xp_need (b := true) (fun z => by cases z) (fun _ => ⟨w, h.wE, ?_⟩)
    subst e
    subst e'
    have no2 : (hs G i && hs G j) = false → ∀ q δ1 σ1, NewRe (-nI 2) δ σ q δ1 σ1 → xw_S_refused δ1 (fun r σ2 => mw_sees (fun r2 u => r = r2 ∧ RL δ1 σ2 u x) (nI i) (nI j) x3 σm) x q σ1 := fun c q δ1 σ1 hN => xp_refuse 2 (by decide) (by decide) h hN (fun σ2 hr => by
      unfold mw_sees mw_sees_26 mw_sees_40
      refine mp_barredTwo_h h.rm h.u hi hj ?_
      rw [c]
      exact ⟨fun _ => ⟨fun _ => ⟨fun z => absurd z (by decide), fun _ => mp_no 2 (by decide) (by decide) ⟨rfl, hr⟩⟩, fun z => absurd z (by decide)⟩, fun z => absurd z (by decide)⟩)
    refine xp_house h.rc h.u hi (bI_if (fun c => ?_) (fun c => xp_house h.rc h.u hj (bI_if (fun d => ?_) (fun d => ?_))))
    · exact xp_need (b := false) (fun _ => no2 (by simp [c])) (fun z => by cases z)
    · exact xp_need (b := false) (fun _ => no2 (by simp [d])) (fun z => by cases z)
    · refine xp_need (b := true) (fun z => by cases z) (fun _ => xp_in (y := 0) (z := 1) (fun f => xp_need (b := false) (fun _ q δ1 σ1 hN => xp_refuse 5 (by decide) (by decide) h hN (fun σ2 hr => ?_)) (fun z => by cases z)) (fun f f' => xp_need (b := true) (fun z => by cases z) (fun _ => ⟨fun u => ?_, fun u => ?_⟩)))
      · unfold mw_sees mw_sees_22 mw_sees_26 mw_sees_40
        refine mp_barredTwo_h h.rm h.u hi hj ?_
        rw [c, d]
        refine ⟨fun z => absurd rfl z, fun _ => ⟨fun _ => ⟨fun _ => ⟨fun z => absurd z (by decide), fun _ => mp_no 5 (by decide) (by decide) ⟨rfl, hr⟩⟩, fun z => absurd z (by decide)⟩, fun a => ⟨fun b => ?_, fun _ => ⟨fun _ => ⟨fun z => absurd z (by decide), fun _ => mp_no 5 (by decide) (by decide) ⟨rfl, hr⟩⟩, fun z => absurd z (by decide)⟩⟩⟩⟩
        rcases f with f | f
        · exact absurd f a
        · exact absurd b (Int32.not_le.mpr f)
      · refine xp_need (b := false) (fun _ q δ1 σ1 hN => xp_refuse 6 (by decide) (by decide) h hN (fun σ2 hr => ?_)) (fun z => by cases z)
        unfold mw_sees mw_sees_22 mw_sees_26 mw_sees_40
        refine mp_barredTwo_h h.rm h.u hi hj ?_
        rw [c, d]
        exact ⟨fun z => absurd rfl z, fun _ => br_f f (br_t (Int32.not_lt.mp f') ⟨fun z => absurd rfl z, fun _ => ⟨fun z => absurd u z, fun _ => ⟨fun z => absurd z (by decide), fun _ => mp_no 6 (by decide) (by decide) ⟨rfl, hr⟩⟩⟩⟩)⟩
      · have go : ∀ (r : Int32), (x3 = 0 → r = bI (lk G i j)) → (¬ x3 = 0 → r = bI (sn G i j)) → mw_sees (fun r2 u => r = r2 ∧ RL δ σ u x) (nI i) (nI j) x3 σm := by
          intro r r0 r1
          unfold mw_sees mw_sees_22 mw_sees_26 mw_sees_40
          refine mp_barredTwo_h h.rm h.u hi hj ?_
          rw [c, d]
          refine ⟨fun z => absurd rfl z, fun _ => br_f f (br_t (Int32.not_lt.mp f') ⟨fun z => absurd rfl z, fun _ => ⟨fun _ => ⟨fun _ => ⟨fun a => ?_, fun a => ?_⟩, fun z => absurd rfl z⟩, fun z => absurd z u⟩⟩)⟩
          · exact mp_isSeen h.u h.rm hi hj c d (bI_if (fun q => ⟨by rw [r1 a, q]; rfl, h.rl⟩) (fun q => ⟨by rw [r1 a, q]; rfl, h.rl⟩))
          · exact mp_looks h.u h.rm hi hj c d (bI_if (fun q => ⟨by rw [r0 a, q]; rfl, h.rl⟩) (fun q => ⟨by rw [r0 a, q]; rfl, h.rl⟩))
        refine xp_need (b := true) (fun z => by cases z) (fun _ => ⟨fun a => ⟨w, h.wE, ?_⟩, fun a => ⟨w, h.wE, ?_⟩⟩)
        · exact xp_seesInto h.u h.rc hi hj c d (bI_if (fun q => go 0 (fun z => absurd z a) (fun _ => by rw [q]; rfl)) (fun q => go 1 (fun z => absurd z a) (fun _ => by rw [q]; rfl)))
        · exact xp_looksInto h.u h.rc hi hj c d (bI_if (fun q => go 0 (fun _ => by rw [q]; rfl) (fun z => absurd a z)) (fun q => go 1 (fun _ => by rw [q]; rfl) (fun z => absurd a z)))
