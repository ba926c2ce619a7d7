/-! image, restore -/
def AllS (a : Nat) (σm u : MSt) : Prop := u.1 = σm.1 ∧ u.2.2 = σm.2.2 ∧ (∀ c, c ≠ a → u.2.1 c = σm.2.1 c) ∧ (∀ b t, b < 7 → t < 8 → u.2.1 a (8 * b + t) = σm.2.1 (7 + b) t) ∧ ∀ k, k < 5 → u.2.1 a (56 + k) = σm.1 k
def AllR (a : Nat) (σm u : MSt) : Prop := (∀ k, 5 ≤ k → u.1 k = σm.1 k) ∧ u.2.2 = σm.2.2 ∧ (∀ c, c < 7 ∨ 13 < c → u.2.1 c = σm.2.1 c) ∧ (∀ b t, b < 7 → t < 8 → u.2.1 (7 + b) t = σm.2.1 a (8 * b + t)) ∧ ∀ k, k < 5 → u.1 k = σm.2.1 a (56 + k)
def SP (a m : Nat) (σm u : MSt) : Prop := u.1 = σm.1 ∧ u.2.2 = σm.2.2 ∧ (∀ c, c ≠ a → u.2.1 c = σm.2.1 c) ∧ ∀ b t, b < m → t < 8 → u.2.1 a (8 * b + t) = σm.2.1 (7 + b) t
def RP (a m : Nat) (σm u : MSt) : Prop := u.1 = σm.1 ∧ u.2.2 = σm.2.2 ∧ (∀ c, c < 7 ∨ 7 + m ≤ c → u.2.1 c = σm.2.1 c) ∧ ∀ b t, b < m → t < 8 → u.2.1 (7 + b) t = σm.2.1 a (8 * b + t)
section PRa
variable {σm u : MSt} {a m : Nat}
theorem len8 {m : Nat} (h : m < 7) : lenM (7 + m) = 8 := by
  have : ∀ m, m < 7 → lenM (7 + m) = 8 := by decide
  exact this m h
theorem len70 {a : Nat} (h : a = 27 ∨ a = 28) : lenM a = 70 := by rcases h with e | e <;> subst e <;> rfl
theorem mp_carS {K : Int32 → MSt → Prop} (ha : a = 27 ∨ a = 28) (hm : m < 7) (h : SP a m σm u) (hK : ∀ v, SP a (m + 1) σm v → K (nI (8 * (m + 1))) v) : mw_carries K (7 + m) a (nI (8 * m)) 0 u := by
  have ne : 7 + m ≠ a := by omega
  unfold mw_carries
  refine lpU (fun n (v : MSt) i => mw_carries_3 K (7 + m) a n (nI (8 * m)) 0 i v) (fun i v => v.1 = σm.1 ∧ v.2.2 = σm.2.2 ∧ (∀ c, c ≠ a → v.2.1 c = σm.2.1 c) ∧ (∀ b t, b < m → t < 8 → v.2.1 a (8 * b + t) = σm.2.1 (7 + b) t) ∧ ∀ t, t < i → v.2.1 a (8 * m + t) = σm.2.1 (7 + m) t) 8 u ⟨h.1, h.2.1, h.2.2.1, h.2.2.2, fun t ht => by omega⟩ ?_ ?_
  · rintro n v ⟨v1, v2, v3, v4, v5⟩
    show mw_carries_3_b K (7 + m) a (mw_carries_3 K (7 + m) a n) (nI (8 * m)) 0 (nI 8) v
    unfold mw_carries_3_b
    refine br_t (nI_le (Nat.le_refl 8) (by decide)) ?_
    have e : nI (8 * m) + 8 = nI (8 * (m + 1)) := by
      show nI (8 * m) + nI 8 = _
      rw [nI_add]
      rfl
    rw [e]
    refine hK v ⟨v1, v2, v3, fun b t hb ht => ?_⟩
    by_cases q : b = m
    · subst q; exact v5 t ht
    · exact v4 b t (by omega) ht
  · rintro n i v hi ⟨v1, v2, v3, v4, v5⟩ L
    show mw_carries_3_b K (7 + m) a (mw_carries_3 K (7 + m) a n) (nI (8 * m)) 0 (nI i) v
    unfold mw_carries_3_b
    rw [nI_add, pcl hi, nI_clamp (n := 8 * m + i) (by omega), len8 hm, len70 ha, v3 _ ne]
    refine br_f (nI_ge (b := 8) hi (by decide)) (br_t rfl ⟨pin hi, vp_in_nI (by omega) (by decide), ?_⟩)
    rintro σ5 rfl
    refine L _ ⟨v1, v2, fun c hc => by rw [sI_n _ _ _ hc]; exact v3 c hc, fun b t hb ht => ?_, fun t ht => ?_⟩
    · rw [sI_s, pk_un (by omega)]; exact v4 b t hb ht
    · rw [sI_s, upd_e]
      by_cases q : t = i
      · subst q; rw [if_pos rfl]
      · rw [if_neg (by omega)]; exact v5 t (by omega)
theorem mp_carR {K : Int32 → MSt → Prop} (ha : a = 27 ∨ a = 28) (hm : m < 7) (h : RP a m σm u) (hK : ∀ v, RP a (m + 1) σm v → K (nI (8 * (m + 1))) v) : mw_carries K (7 + m) a (nI (8 * m)) 1 u := by
  have ne : 7 + m ≠ a := by omega
  unfold mw_carries
  refine lpU (fun n (v : MSt) i => mw_carries_3 K (7 + m) a n (nI (8 * m)) 1 i v) (fun i v => v.1 = σm.1 ∧ v.2.2 = σm.2.2 ∧ (∀ c, c < 7 ∨ 7 + (m + 1) ≤ c → v.2.1 c = σm.2.1 c) ∧ (∀ b t, b < m → t < 8 → v.2.1 (7 + b) t = σm.2.1 a (8 * b + t)) ∧ ∀ t, t < i → v.2.1 (7 + m) t = σm.2.1 a (8 * m + t)) 8 u ⟨h.1, h.2.1, fun c hc => h.2.2.1 c (by omega), h.2.2.2, fun t ht => by omega⟩ ?_ ?_
  · rintro n v ⟨v1, v2, v3, v4, v5⟩
    show mw_carries_3_b K (7 + m) a (mw_carries_3 K (7 + m) a n) (nI (8 * m)) 1 (nI 8) v
    unfold mw_carries_3_b
    refine br_t (nI_le (Nat.le_refl 8) (by decide)) ?_
    have e : nI (8 * m) + 8 = nI (8 * (m + 1)) := by
      show nI (8 * m) + nI 8 = _
      rw [nI_add]
      rfl
    rw [e]
    refine hK v ⟨v1, v2, v3, fun b t hb ht => ?_⟩
    by_cases q : b = m
    · subst q; exact v5 t ht
    · exact v4 b t (by omega) ht
  · rintro n i v hi ⟨v1, v2, v3, v4, v5⟩ L
    show mw_carries_3_b K (7 + m) a (mw_carries_3 K (7 + m) a n) (nI (8 * m)) 1 (nI i) v
    unfold mw_carries_3_b
    rw [nI_add, pcl hi, nI_clamp (n := 8 * m + i) (by omega), len8 hm, len70 ha, v3 a (by omega)]
    refine br_f (nI_ge (b := 8) hi (by decide)) (br_f (by decide) ⟨vp_in_nI (by omega) (by decide), pin hi, ?_⟩)
    rintro σ5 rfl
    refine L _ ⟨v1, v2, fun c hc => by rw [sI_n _ _ _ (by omega)]; exact v3 c hc, fun b t hb ht => ?_, fun t ht => ?_⟩
    · rw [sI_n _ _ _ (by omega)]; exact v4 b t hb ht
    · rw [sI_s, upd_e]
      by_cases q : t = i
      · subst q; rw [if_pos rfl]
      · rw [if_neg q]; exact v5 t (by omega)
theorem mp_allS {K : MSt → Prop} (ha : a = 27 ∨ a = 28) (hK : ∀ u, AllS a σm u → K u) : mw_all K a 0 σm := by
  unfold mw_all
  refine mp_carS (m := 0) ha (by decide) (σm := σm) ⟨rfl, rfl, fun _ _ => rfl, fun b t hb => by omega⟩ (fun u1 h1 => mp_carS (m := 1) ha (by decide) h1 (fun u2 h2 => mp_carS (m := 2) ha (by decide) h2 (fun u3 h3 => mp_carS (m := 3) ha (by decide) h3 (fun u4 h4 => mp_carS (m := 4) ha (by decide) h4 (fun u5 h5 => mp_carS (m := 5) ha (by decide) h5 (fun u6 h6 => mp_carS (m := 6) ha (by decide) h6 (fun u7 h7 => br_t rfl ?_)))))))
  obtain ⟨g1, g2, g3, g4⟩ := h7
  have c56 : ∀ k, k < 5 → nI (8 * (6 + 1)) + nI k = nI (56 + k) ∧ vp_in (nI (56 + k)) 70 ∧ (nI (56 + k)).toNatClampNeg = 56 + k := fun k hk => ⟨by rw [nI_add], vp_in_nI (by omega) (by decide), nI_clamp (by omega)⟩
  have w0 := c56 0 (by decide)
  have e1 : nI (8 * (6 + 1)) + 1 = nI (56 + 1) := (c56 1 (by decide)).1
  have e2 : nI (8 * (6 + 1)) + 2 = nI (56 + 2) := (c56 2 (by decide)).1
  have e3 : nI (8 * (6 + 1)) + 3 = nI (56 + 3) := (c56 3 (by decide)).1
  have e4 : nI (8 * (6 + 1)) + 4 = nI (56 + 4) := (c56 4 (by decide)).1
  rw [len70 ha, e1, e2, e3, e4, (c56 1 (by decide)).2.2, (c56 2 (by decide)).2.2, (c56 3 (by decide)).2.2, (c56 4 (by decide)).2.2, show (nI (8 * (6 + 1))).toNatClampNeg = 56 from w0.2.2, g1]
  refine ⟨w0.2.1, ?_⟩
  intro s1 z1
  have f1 : s1.1 = σm.1 := by rw [z1]; exact g1
  rw [f1]
  refine ⟨(c56 1 (by decide)).2.1, ?_⟩
  intro s2 z2
  have f2 : s2.1 = σm.1 := by rw [z2]; exact f1
  rw [f2]
  refine ⟨(c56 2 (by decide)).2.1, ?_⟩
  intro s3 z3
  have f3 : s3.1 = σm.1 := by rw [z3]; exact f2
  rw [f3]
  refine ⟨(c56 3 (by decide)).2.1, ?_⟩
  intro s4 z4
  have f4 : s4.1 = σm.1 := by rw [z4]; exact f3
  rw [f4]
  refine ⟨(c56 4 (by decide)).2.1, ?_⟩
  intro s5 z5
  have f5 : s5.1 = σm.1 := by rw [z5]; exact f4
  have j5 : s5.2.2 = σm.2.2 := by rw [z5, z4, z3, z2, z1]; exact g2
  have o5 : ∀ c, c ≠ a → s5.2.1 c = σm.2.1 c := fun c hc => by rw [z5, sI_n _ _ _ hc, z4, sI_n _ _ _ hc, z3, sI_n _ _ _ hc, z2, sI_n _ _ _ hc, z1, sI_n _ _ _ hc]; exact g3 c hc
  have a5 : ∀ j, s5.2.1 a j = if j = 60 then σm.1 4 else if j = 59 then σm.1 3 else if j = 58 then σm.1 2 else if j = 57 then σm.1 1 else if j = 56 then σm.1 0 else u7.2.1 a j := fun j => by rw [z5, sI_s, upd_e, z4, sI_s, upd_e, z3, sI_s, upd_e, z2, sI_s, upd_e, z1, sI_s, upd_e]
  refine hK s5 ⟨f5, j5, o5, fun b t hb ht => ?_, fun k hk => ?_⟩
  · rw [a5, if_neg (by omega), if_neg (by omega), if_neg (by omega), if_neg (by omega), if_neg (by omega)]
    exact g4 b t hb ht
  · rw [a5]
    rcases (show k = 0 ∨ k = 1 ∨ k = 2 ∨ k = 3 ∨ k = 4 by omega) with e | e | e | e | e <;> subst e <;> rfl
theorem mp_allR {K : MSt → Prop} (ha : a = 27 ∨ a = 28) (hK : ∀ u, AllR a σm u → K u) : mw_all K a 1 σm := by
  unfold mw_all
  refine mp_carR (m := 0) ha (by decide) (σm := σm) ⟨rfl, rfl, fun _ _ => rfl, fun b t hb => by omega⟩ (fun u1 h1 => mp_carR (m := 1) ha (by decide) h1 (fun u2 h2 => mp_carR (m := 2) ha (by decide) h2 (fun u3 h3 => mp_carR (m := 3) ha (by decide) h3 (fun u4 h4 => mp_carR (m := 4) ha (by decide) h4 (fun u5 h5 => mp_carR (m := 5) ha (by decide) h5 (fun u6 h6 => mp_carR (m := 6) ha (by decide) h6 (fun u7 h7 => br_f (by decide) ?_)))))))
  obtain ⟨g1, g2, g3, g4⟩ := h7
  have c56 : ∀ k, k < 5 → nI (8 * (6 + 1)) + nI k = nI (56 + k) ∧ vp_in (nI (56 + k)) 70 ∧ (nI (56 + k)).toNatClampNeg = 56 + k := fun k hk => ⟨by rw [nI_add], vp_in_nI (by omega) (by decide), nI_clamp (by omega)⟩
  have w0 := c56 0 (by decide)
  have e1 : nI (8 * (6 + 1)) + 1 = nI (56 + 1) := (c56 1 (by decide)).1
  have e2 : nI (8 * (6 + 1)) + 2 = nI (56 + 2) := (c56 2 (by decide)).1
  have e3 : nI (8 * (6 + 1)) + 3 = nI (56 + 3) := (c56 3 (by decide)).1
  have e4 : nI (8 * (6 + 1)) + 4 = nI (56 + 4) := (c56 4 (by decide)).1
  have ga : u7.2.1 a = σm.2.1 a := g3 a (by omega)
  rw [len70 ha, e1, e2, e3, e4, (c56 1 (by decide)).2.2, (c56 2 (by decide)).2.2, (c56 3 (by decide)).2.2, (c56 4 (by decide)).2.2, show (nI (8 * (6 + 1))).toNatClampNeg = 56 from w0.2.2, ga]
  refine ⟨w0.2.1, ?_⟩
  intro s1 z1
  have f1 : s1.2.1 = u7.2.1 := by rw [z1]; rfl
  rw [f1, ga]
  refine ⟨(c56 1 (by decide)).2.1, ?_⟩
  intro s2 z2
  have f2 : s2.2.1 = u7.2.1 := by rw [z2]; exact f1
  rw [f2, ga]
  refine ⟨(c56 2 (by decide)).2.1, ?_⟩
  intro s3 z3
  have f3 : s3.2.1 = u7.2.1 := by rw [z3]; exact f2
  rw [f3, ga]
  refine ⟨(c56 3 (by decide)).2.1, ?_⟩
  intro s4 z4
  have f4 : s4.2.1 = u7.2.1 := by rw [z4]; exact f3
  rw [f4, ga]
  refine ⟨(c56 4 (by decide)).2.1, ?_⟩
  intro s5 z5
  have f5 : s5.2.1 = u7.2.1 := by rw [z5]; exact f4
  have j5 : s5.2.2 = σm.2.2 := by rw [z5, z4, z3, z2, z1]; exact g2
  have a5 : ∀ k, s5.1 k = if k = 4 then σm.2.1 a 60 else if k = 3 then σm.2.1 a 59 else if k = 2 then σm.2.1 a 58 else if k = 1 then σm.2.1 a 57 else if k = 0 then σm.2.1 a 56 else σm.1 k := fun k => by
    rw [z5]
    show upd s4.1 4 _ k = _
    rw [upd_e, z4]
    show (if k = 4 then _ else upd s3.1 3 _ k) = _
    rw [upd_e, z3]
    show (if k = 4 then _ else if k = 3 then _ else upd s2.1 2 _ k) = _
    rw [upd_e, z2]
    show (if k = 4 then _ else if k = 3 then _ else if k = 2 then _ else upd s1.1 1 _ k) = _
    rw [upd_e, z1]
    show (if k = 4 then _ else if k = 3 then _ else if k = 2 then _ else if k = 1 then _ else upd u7.1 0 _ k) = _
    rw [upd_e, g1]
  refine hK s5 ⟨fun k hk => ?_, j5, fun c hc => by rw [f5]; exact g3 c (by omega), fun b t hb ht => by rw [f5]; exact g4 b t hb ht, fun k hk => ?_⟩
  · rw [a5, if_neg (by omega), if_neg (by omega), if_neg (by omega), if_neg (by omega), if_neg (by omega)]
  · rw [a5]
    rcases (show k = 0 ∨ k = 1 ∨ k = 2 ∨ k = 3 ∨ k = 4 by omega) with e | e | e | e | e <;> subst e <;> rfl
end PRa
theorem AllS.rk {G : Gd} {σm u : MSt} {a : Nat} (h : AllS a σm u) (hR : RM G σm) (hn : gN G ≤ 8) : RK G (u.2.1 a) := by
  obtain ⟨-, -, -, h4, h5⟩ := h
  obtain ⟨r0, r1, r2, r3, r4, r5⟩ := hR
  refine ⟨(h5 0 (by decide)).trans r0, (h5 1 (by decide)).trans r1, (h5 2 (by decide)).trans r2, (h5 3 (by decide)).trans r3, (h5 4 (by decide)).trans r4, fun i hi => ?_⟩
  have h8 : i < 8 := by omega
  obtain ⟨a1, a2, a3, a4, a5, a6, a7⟩ := r5 i hi
  refine ⟨?_, (h4 1 i (by decide) h8).trans a2, (h4 2 i (by decide) h8).trans a3, (h4 3 i (by decide) h8).trans a4, (h4 4 i (by decide) h8).trans a5, (h4 5 i (by decide) h8).trans a6, (h4 6 i (by decide) h8).trans a7⟩
  have := h4 0 i (by decide) h8
  rw [show 8 * 0 + i = i by omega] at this
  exact this.trans a1
theorem AllR.rm {G : Gd} {σm u : MSt} {a : Nat} (h : AllR a σm u) (hR : RK G (σm.2.1 a)) (hn : gN G ≤ 8) : RM G u := by
  obtain ⟨-, -, -, h4, h5⟩ := h
  obtain ⟨r0, r1, r2, r3, r4, r5⟩ := hR
  refine ⟨(h5 0 (by decide)).trans r0, (h5 1 (by decide)).trans r1, (h5 2 (by decide)).trans r2, (h5 3 (by decide)).trans r3, (h5 4 (by decide)).trans r4, fun i hi => ?_⟩
  have h8 : i < 8 := by omega
  obtain ⟨a1, a2, a3, a4, a5, a6, a7⟩ := r5 i hi
  refine ⟨?_, (h4 1 i (by decide) h8).trans a2, (h4 2 i (by decide) h8).trans a3, (h4 3 i (by decide) h8).trans a4, (h4 4 i (by decide) h8).trans a5, (h4 5 i (by decide) h8).trans a6, (h4 6 i (by decide) h8).trans a7⟩
  have := h4 0 i (by decide) h8
  rw [show 8 * 0 + i = i by omega] at this
  exact this.trans a1
theorem Agr.fr {δ δ2 : XSh} {σ σ3 σ7 : XSt} {q : Nat} (h : Agr δ σ δ2 σ3) (hF : Fr δ q) (k : Kp q δ2 σ3 δ2 σ7) : Agr δ σ δ2 σ7 := ⟨h.1, fun κ hk => by
  obtain ⟨a1, a2, a3⟩ := h.2 κ hk
  obtain ⟨b1, b2, b3⟩ := k.2 κ.1 κ.2 (h.1.m hk) (fun z => (hF κ hk).1 z.1)
  exact ⟨b1.trans a1, b2.trans a2, b3.trans a3⟩⟩
theorem pl_image : Pl_image RL := by
  intro δ σ σm x h
  obtain ⟨G, w, tr, sh, h⟩ := h
  have hn := h.n
  unfold xw_S_image
  rintro q δ2 σ3 ⟨hA, hF, r1, -, -, -, -, r8, r9, r10⟩
  have hq : gI δ2 q := ⟨r1, r8, r9, r10⟩
  have h3 := h.kp hA.kp
  have wq : w ≠ q := (hF (6, w) h.gw.1).1
  have tq : tr ≠ q := (hF (6, tr) h.gt.1).1
  refine ⟨w, h3.wE, xp_take h3.rc h3.gw wq hn h.1.2.1 (fun σ7 c7 k7 => ?_)⟩
  have h7 := h.kp (hA.fr hF k7).kp
  rintro σ8 rfl
  have e3 : (tP σ7 0 x 5 (some q)).2.2 0 x 3 = some tr := by rw [tP_s, vup_e, if_neg (by decide)]; exact h7.tE
  have e4 : (tP σ7 0 x 5 (some q)).2.2 0 x 4 = some w := by rw [tP_s, vup_e, if_neg (by decide)]; exact h7.wE
  have e5 : (tP σ7 0 x 5 (some q)).2.2 0 x 5 = some q := by rw [tP_s, vup_e, if_pos rfl]
  refine ⟨w, e4, ?_⟩
  unfold mw_image
  rintro σ1 rfl
  refine mp_allS (Or.inr rfl) (fun u hu => ⟨?_, ?_⟩)
  · show σ7.1 6 w 0 = u.1 0
    rw [h7.rc.1, hu.1]
    exact h.rm.1.symm
  · obtain ⟨u1, u2, u3, u4, u5⟩ := id hu
    have rk := hu.rk (G := G) h.rm hn
    obtain ⟨p1, p2, p3, ⟨b0, b1, b2, b3, b4, b5, b6, b7, b8, b9, b10, b11⟩, p5⟩ := h7
    refine ⟨G, w, tr, sh, p1, ?_, p3, ⟨b0, b1, b2, b3, e3, e4, ?_, ?_, ?_, ?_, ?_, Or.inr ⟨q, G, e5, tq.symm, wq.symm, hq, p1, c7, ?_, rk⟩⟩, ?_⟩
    · unfold RM
      rw [u1, u3 7 (by decide), u3 8 (by decide), u3 9 (by decide), u3 10 (by decide), u3 11 (by decide), u3 12 (by decide), u3 13 (by decide)]
      exact p2
    · rw [u3 6 (by decide)]; exact b6
    · rw [u1]; exact b7
    · rw [u1]; exact b8
    · rw [u3 35 (by decide)]; exact b9
    · rw [u3 20 (by decide)]; exact b10
    · rw [u1, sF_s]; decide
    · unfold RSh HR HRr at p5 ⊢
      rw [u3 14 (by decide), u3 15 (by decide), u3 16 (by decide), u3 17 (by decide), u2]
      exact p5
