theorem RC.draw {G : Gd} {δ : XSh} {σ : XSt} {g : Nat} (h : RC G δ σ g) : σ.1 6 g 3 = bm (gC G) (gN G) := h.2.2.2.1
/-- one bit set or taken away -/
theorem bm_set {p : Nat → Bool} {n i : Nat} (hn : n ≤ 8) (hi : i < n) (b : Bool) : (if b = true then bm p n ||| ((1 : Int32) <<< (nI i &&& 31)) else bm p n &&& (((1 : Int32) <<< (nI i &&& 31)) ^^^ (-1))) = bm (fun t => if t = i then b else p t) n := by
  refine b_ext (fun t ht => ?_)
  rw [bm_bt _ (by omega) ht]
  cases b
  · rw [if_neg (by decide), bt_clr _ (by omega) ht, bm_bt _ (by omega) ht]
    by_cases q : t = i
    · simp [q]
    · simp [q]
  · rw [if_pos rfl, b_or, bt_sh (by omega) ht, bm_bt _ (by omega) ht]
    by_cases q : t = i
    · subst q; simp [hi]
    · simp [q]
theorem bm_inj {p q : Nat → Bool} {n : Nat} (hn : n ≤ 8) (h : bm p n = bm q n) : ∀ i, i < n → p i = q i := by
  intro i hi
  have a := bm_bt p (k := n) (by omega) (i := i) (by omega)
  have b := bm_bt q (k := n) (by omega) (i := i) (by omega)
  rw [h, b] at a
  simpa [hi] using a.symm
section PD
variable {G : Gd} {tr x w : Nat} {sh : Nat → Nat} {δ : XSh} {σ : XSt} {σm : MSt} {i j : Nat} {K : Int32 → MSt → Prop} {KX' : Int32 → XSh → XSt → Prop}
theorem mp_draw (hU : gU G) (hR : RM G σm) (hi : i < gN G) (c : hs G i = true) (b : Bool) (hK : K (bI (!decide (gC G i = b))) (sI σm 12 i (bI b))) : mw_draw K (nI i) (bI b) σm := by
  have hn := hU.1
  have h8 : i < 8 := by omega
  unfold mw_draw mw_draw_38
  refine mp_barred_h hR hU hi ?_
  rw [c, pcl h8, (hR.2.2.2.2.2 i hi).2.2.2.2.2.1]
  have key : ∀ σ2, σ2 = sI σm 12 i (bI b) → vp_in (nI i) (lenM 12) ∧ ((¬ bI (gC G i) = σ2.2.1 12 i → K 1 σ2) ∧ (bI (gC G i) = σ2.2.1 12 i → K 0 σ2)) := by
    rintro σ2 rfl
    rw [sI_s, pk_us]
    refine ⟨pin h8, fun z => ?_, fun z => ?_⟩
    · have : ¬ gC G i = b := fun q => z (by rw [q])
      simpa [this, bI] using hK
    · have : gC G i = b := by
        cases h1 : gC G i <;> cases b <;> first | rfl | (rw [h1] at z; exact absurd z (by decide))
      simpa [this, bI] using hK
  exact ⟨fun _ => ⟨pin h8, bI_if (fun z => ⟨pin h8, by subst z; exact key⟩) (fun z => ⟨pin h8, by subst z; exact key⟩)⟩, fun z => absurd rfl z⟩
theorem dr_e (a b : Bool) (P : Int32 → Prop) (h : P (bI (!decide (a = b)))) : (bI a = bI b → P 0) ∧ (¬ bI a = bI b → P 1) := by
  refine ⟨fun z => ?_, fun z => ?_⟩
  · have : a = b := by cases a <;> cases b <;> first | rfl | exact absurd z (by decide)
    simpa [this, bI] using h
  · have : ¬ a = b := fun q => z (by rw [q])
    simpa [this, bI] using h
end PD
theorem pl_draw : Pl_draw RL := by
  intro δ σ σm x h x1 x2 hb
  obtain ⟨G, w, tr, sh, h⟩ := h
  have hn := h.n
  unfold xw_S_draw xw_S_draw_24 xw_S_draw_60
  refine xp_mustHouse h (fun c q δ1 σ1 hN => xp_refuse 1 (by decide) (by decide) h hN (fun σ2 hr => ?_)) (fun i hi e c q δ1 σ1 hN => xp_refuse 2 (by decide) (by decide) h hN (fun σ2 hr => ?_)) (fun i hi e c => ⟨w, h.wE, ?_⟩)
  · exact mp_barred_1 h.rm h.u c ⟨fun z => absurd z (by decide), fun _ => mp_no 1 (by decide) (by decide) ⟨rfl, hr⟩⟩
  · subst e
    refine mp_barred_h h.rm h.u hi ?_
    rw [c]
    exact ⟨fun z => absurd z (by decide), fun _ => mp_no 2 (by decide) (by decide) ⟨rfl, hr⟩⟩
  · subst e
    obtain ⟨b, eb⟩ : ∃ b : Bool, x2 = bI b := by
      rcases hb with z | z
      · exact ⟨false, z⟩
      · exact ⟨true, z⟩
    subst eb
    have fin : ∀ v : Int32, v = bm (fun t => if t = i then b else gC G t) (gN G) → ∀ r : Int32, r = bI (!decide (gC G i = b)) → mw_draw (fun r2 u => r = r2 ∧ RL δ (tI σ 6 w 3 v) u x) (nI i) (bI b) σm := fun v hv r hr =>
      mp_draw h.u h.rm hi c b ⟨hr, (h.upd (h.1.cur (f := fun t => if t = i then b else gC G t)) (h.rm.cur (fun t _ q => if_neg q) (by rw [if_pos rfl])) (h.rc.cur hv) (Kp.tI ig6) (Nat.le_refl _) (fun _ _ => rfl) (Mg.sI (by decide))).rl⟩
    have es := bm_set (p := gC G) hn hi b
    have go : ∀ t0, t0 = bI (gC G i) → ∀ v : Int32, v = bm (fun t => if t = i then b else gC G t) (gN G) → (t0 = bI b → mw_draw (fun r2 u => (0 : Int32) = r2 ∧ RL δ (tI σ 6 w 3 v) u x) (nI i) (bI b) σm) ∧ (¬ t0 = bI b → mw_draw (fun r2 u => (1 : Int32) = r2 ∧ RL δ (tI σ 6 w 3 v) u x) (nI i) (bI b) σm) := by
      rintro t0 rfl v hv
      exact dr_e (gC G i) b (fun r => mw_draw (fun r2 u => r = r2 ∧ RL δ (tI σ 6 w 3 v) u x) (nI i) (bI b) σm) (fin v hv _ rfl)
    rw [h.rc.draw, e_sh hn hi]
    refine bI_if (fun z => ⟨w, h.wE, bI_if (fun y => ?_) (fun y => ?_)⟩) (fun z => ⟨w, h.wE, bI_if (fun y => ?_) (fun y => ?_)⟩)
    all_goals
      rintro σ1 rfl
      refine go _ (by rw [z]; rfl) _ ?_
      rw [y] at es
      rw [h.rc.draw, y]
      exact es
theorem mp_ask_n {K : Int32 → MSt → Prop} {σm : MSt} {x1 x2 : Int32} (c : ¬ ((x1 = 0 ∧ ¬ x2 < 0 ∧ ¬ 1 < x2) ∨ (x1 = 1 ∧ ¬ x2 < 1 ∧ ¬ 9 < x2))) (hK : K (-nI 6) (sI σm 6 6 (σm.2.1 6 6 + 1))) : mw_ask K x1 x2 σm := by
  have n6 : mw_ask_55 K σm := mp_no 6 (by decide) (by decide) hK
  have n26 : mw_ask_26 K x1 x2 σm := ⟨fun _ => n6, fun a => ⟨fun _ => n6, fun b => ⟨fun _ => n6, fun d => absurd (Or.inr ⟨a, b, d⟩) c⟩⟩⟩
  exact ⟨fun _ => n26, fun a => ⟨fun _ => n26, fun b => ⟨fun _ => n26, fun d => absurd (Or.inl ⟨a, b, d⟩) c⟩⟩⟩
theorem lt10 {y : Int32} (z : y < 0) : y < 1 := by
  rw [Int32.lt_iff_toInt_lt] at z ⊢
  have e1 : (1 : Int32).toInt = 1 := by decide
  have e0 : (0 : Int32).toInt = 0 := by decide
  omega
theorem pl_ask : Pl_ask RL := by
  intro δ σ σm x h x1 x2
  obtain ⟨G, w, tr, sh, h⟩ := h
  have no : ¬ ((x1 = 0 ∧ ¬ x2 < 0 ∧ ¬ 1 < x2) ∨ (x1 = 1 ∧ ¬ x2 < 1 ∧ ¬ 9 < x2)) → ∀ q δ1 σ1, NewRe (-nI 6) δ σ q δ1 σ1 → xw_S_refused δ1 (fun r σ2 => mw_ask (fun r2 u => r = r2 ∧ RL δ1 σ2 u x) x1 x2 σm) x q σ1 := fun c q δ1 σ1 hN => xp_refuse 6 (by decide) (by decide) h hN (fun σ2 hr => mp_ask_n c ⟨rfl, hr⟩)
  unfold xw_S_ask xw_S_ask_25 xw_S_ask_35 xw_S_ask_36 xw_S_ask_60 xw_S_ask_75
  refine xp_in (y := 0) (z := 1) (fun c => ⟨fun _ => xp_need (b := false) (fun _ => no ?_) (fun z => by cases z), fun z => absurd rfl z⟩) (fun c c' => ⟨fun z => absurd z (by decide), fun _ => ⟨fun d => ?_, fun d => ?_⟩⟩)
  · rintro (z | z)
    · rw [z.1] at c; exact absurd c (by decide)
    · rw [z.1] at c; exact absurd c (by decide)
  · have e1 : x1 = 1 := by
      obtain ⟨j, hj, e⟩ := nI_of2 (n := 1) (M := 1) (by decide) c (Int32.not_lt.mp c')
      have : j = 1 := by
        rcases (show j = 0 ∨ j = 1 by omega) with z | z
        · subst z; exact absurd (e.trans nI_0) d
        · exact z
      rw [e, this]; rfl
    subst e1
    refine xp_in (y := 1) (z := 9) (fun f => ⟨fun _ => xp_need (b := false) (fun _ => no ?_) (fun z => by cases z), fun z => absurd rfl z⟩) (fun f f' => ⟨fun z => absurd z (by decide), fun _ => xp_need (b := true) (fun z => by cases z) (fun _ => ⟨fun _ => ⟨w, h.wE, ?_⟩, fun z => absurd z d⟩)⟩)
    · rintro (z | z)
      · exact absurd z.1 (by decide)
      · rcases f with f | f
        · exact z.2.1 f
        · exact z.2.2 f
    · rintro σ6 rfl
      have hb : ∃ a, 1 ≤ a ∧ a ≤ 9 ∧ x2 = nI a := by
        obtain ⟨j, hj, e⟩ := nI_of2 (n := 9) (M := 9) (by decide) (fun z => f (lt10 z)) (Int32.not_lt.mp f')
        refine ⟨j, ?_, hj, e⟩
        rcases Nat.eq_zero_or_pos j with z | z
        · subst z; exact absurd (by rw [e]; decide) f
        · exact z
      unfold mw_ask mw_ask_26
      refine ⟨fun _ => ⟨fun z => absurd rfl z, fun _ => br_f f (br_f f' ?_)⟩, fun z => absurd z d⟩
      rintro σ4 rfl
      refine ⟨?_, (h.upd (h.1.far hb) (h.rm.fld (a := 1) (by decide)) h.rc.far (Kp.tI ig6) (Nat.le_refl _) (fun _ _ => rfl) (Mg.sF (by decide))).rl⟩
      rw [h.rc.2.2.1, h.rm.2.2.1]
  · subst d
    refine xp_in (y := 0) (z := 1) (fun f => ⟨fun _ => xp_need (b := false) (fun _ => no ?_) (fun z => by cases z), fun z => absurd rfl z⟩) (fun f f' => ⟨fun z => absurd z (by decide), fun _ => xp_need (b := true) (fun z => by cases z) (fun _ => ⟨fun z => absurd rfl z, fun _ => ⟨w, h.wE, ?_⟩⟩)⟩)
    · rintro (z | z)
      · rcases f with f | f
        · exact z.2.1 f
        · exact z.2.2 f
      · exact absurd z.1 (by decide)
    · have hb : x2 = 0 ∨ x2 = 1 := by
        obtain ⟨j, hj, e⟩ := nI_of2 (n := 1) (M := 1) (by decide) f (Int32.not_lt.mp f')
        rcases (show j = 0 ∨ j = 1 by omega) with z | z
        · subst z; exact Or.inl e
        · subst z; exact Or.inr e
      have fin : ∀ r, r = gF G 0 → mw_ask (fun r2 u => r = r2 ∧ RL δ (tI σ 6 w 1 x2) u x) 0 x2 σm := by
        intro r hr
        unfold mw_ask
        refine ⟨fun z => absurd rfl z, fun _ => br_f f (br_f f' ?_)⟩
        rintro σ4 rfl
        refine ⟨?_, (h.upd (h.1.sum hb) (h.rm.fld (a := 0) (by decide)) h.rc.sum (Kp.tI ig6) (Nat.le_refl _) (fun _ _ => rfl) (Mg.sF (by decide))).rl⟩
        rw [hr, h.rm.2.1]
      have go : ∀ r, r = gF G 0 → ∃ o1, σ.2.2 0 x 4 = some o1 ∧ ((¬ x2 = 1 → ((0 : Int32) = 0 ∨ (0 : Int32) = 1) ∧ ∀ σ2, σ2 = tI σ 6 o1 1 0 → mw_ask (fun r2 u => r = r2 ∧ RL δ σ2 u x) 0 x2 σm) ∧ (x2 = 1 → ((1 : Int32) = 0 ∨ (1 : Int32) = 1) ∧ ∀ σ2, σ2 = tI σ 6 o1 1 1 → mw_ask (fun r2 u => r = r2 ∧ RL δ σ2 u x) 0 x2 σm)) := by
        intro r hr
        have := fin r hr
        refine ⟨w, h.wE, fun z => ⟨Or.inl rfl, ?_⟩, fun z => ⟨Or.inr rfl, ?_⟩⟩
        · rintro σ2 rfl
          rcases hb with q | q
          · subst q; exact this
          · exact absurd q z
        · rintro σ2 rfl
          subst z; exact this
      rw [h.rc.2.1]
      rcases h.1.2.1 with q | q
      · rw [q]; exact ⟨fun _ => go 0 q.symm, fun z => absurd rfl z⟩
      · rw [q]; exact ⟨fun z => absurd z (by decide), fun _ => go 1 q.symm⟩
theorem pl_shut : Pl_shut RL := by
  intro δ σ σm x h x1 x2 x3 hb
  obtain ⟨G, w, tr, sh, h⟩ := h
  have hn := h.n
  unfold xw_S_shut xw_S_shut_27 xw_S_shut_72
  refine xp_mustHouses h (fun c q δ1 σ1 hN => xp_refuse 1 (by decide) (by decide) h hN (fun σ2 hr => ?_)) (fun i j hi hj e e' c q δ1 σ1 hN => xp_refuse 2 (by decide) (by decide) h hN (fun σ2 hr => ?_)) (fun i hi e e' c q δ1 σ1 hN => xp_refuse 6 (by decide) (by decide) h hN (fun σ2 hr => ?_)) (fun i j hi hj e e' c d ne => ⟨w, h.wE, ?_⟩)
  · exact mp_barredTwo_1 h.rm h.u c ⟨fun z => absurd z (by decide), fun _ => mp_no 1 (by decide) (by decide) ⟨rfl, hr⟩⟩
  · subst e
    subst e'
    refine mp_barredTwo_h h.rm h.u hi hj ?_
    rw [c]
    exact ⟨fun z => absurd z (by decide), fun _ => mp_no 2 (by decide) (by decide) ⟨rfl, hr⟩⟩
  · subst e
    subst e'
    refine mp_barredTwo_h h.rm h.u hi hi ?_
    rw [c]
    exact ⟨fun _ => ⟨fun z => absurd rfl z, fun _ => mp_no 6 (by decide) (by decide) ⟨rfl, hr⟩⟩, fun z => absurd rfl z⟩
  · subst e
    subst e'
    have h8 : i < 8 := by omega
    have g8 : j < 8 := by omega
    have nn : ¬ nI i = nI j := fun z => ne ((nI_eq (by omega) (by omega)).mp z)
    obtain ⟨b, eb⟩ : ∃ b : Bool, x3 = bI b := by
      rcases hb with z | z
      · exact ⟨false, z⟩
      · exact ⟨true, z⟩
    subst eb
    have em := bm_set (p := gS G i) hn hj b
    have ec := bm_set (p := fun a => gS G a j) hn hi b
    let f : Nat → Nat → Bool := fun a t => if a = i ∧ t = j then b else gS G a t
    have fi : bm (fun t => if t = j then b else gS G i t) (gN G) = bm (f i) (gN G) := bm_congr (fun t _ => by simp [f])
    have fj : bm (fun a => if a = i then b else gS G a j) (gN G) = bm (fun a => f a j) (gN G) := bm_congr (fun t _ => by simp [f])
    rw [fi] at em
    rw [fj] at ec
    have eq13 : (bm (gS G i) (gN G) = bm (f i) (gN G)) ↔ gS G i j = b := by
      constructor
      · intro z
        have := bm_inj hn z j hj
        simpa [f] using this
      · intro z
        refine bm_congr (fun t _ => ?_)
        by_cases q : t = j
        · subst q; simp [f, z]
        · simp [f, q]
    have fin : ∀ v : Int32, v = bm (fun a => f a j) (gN G) → ∀ r : Int32, r = bI (!decide (gS G i j = b)) → mw_shut (fun r2 u => r = r2 ∧ RL δ (tI σ 10 w j v) u x) (nI i) (nI j) (bI b) σm := by
      intro v hv r hr
      unfold mw_shut mw_shut_66
      refine mp_barredTwo_h h.rm h.u hi hj ?_
      rw [c, d, pcl h8, (h.rm.2.2.2.2.2 i hi).2.2.2.2.2.2]
      have key : ∀ σ2, σ2 = sI σm 13 i (bm (f i) (gN G)) → vp_in (nI i) (lenM 13) ∧ ((¬ bm (gS G i) (gN G) = σ2.2.1 13 i → r = 1 ∧ RL δ (tI σ 10 w j v) σ2 x) ∧ (bm (gS G i) (gN G) = σ2.2.1 13 i → r = 0 ∧ RL δ (tI σ 10 w j v) σ2 x)) := by
        rintro σ2 rfl
        have hr2 : RL δ (tI σ 10 w j v) (sI σm 13 i (bm (f i) (gN G))) x := (h.upd (h.1.shu (f := f)) (h.rm.shu (fun t a _ _ q => if_neg (fun z => q z.1)) rfl) (h.rc.shu (fun t a _ _ q => if_neg (fun z => q z.2)) hv) (Kp.tI ig10) (Nat.le_refl _) (fun _ _ => rfl) (Mg.sI (by decide))).rl
        rw [sI_s, pk_us, eq13]
        refine ⟨pin h8, fun z => ⟨?_, hr2⟩, fun z => ⟨?_, hr2⟩⟩
        · rw [hr]; simp [z, bI]
        · rw [hr]; simp [z, bI]
      refine ⟨fun _ => ⟨fun _ => ⟨pin h8, bI_if (fun z => ⟨pin h8, ?_⟩) (fun z => ⟨pin h8, ?_⟩)⟩, fun z => absurd z nn⟩, fun z => absurd rfl z⟩
      · rw [z] at em
        rw [show bm (gS G i) (gN G) &&& (((1 : Int32) <<< (nI j &&& 31)) ^^^ (-1)) = bm (f i) (gN G) from em]
        exact key
      · rw [z] at em
        rw [show bm (gS G i) (gN G) ||| ((1 : Int32) <<< (nI j &&& 31)) = bm (f i) (gN G) from em]
        exact key
    have go : ∀ t0, t0 = bI (gS G i j) → ∀ v : Int32, v = bm (fun a => f a j) (gN G) → (t0 = bI b → mw_shut (fun r2 u => (0 : Int32) = r2 ∧ RL δ (tI σ 10 w j v) u x) (nI i) (nI j) (bI b) σm) ∧ (¬ t0 = bI b → mw_shut (fun r2 u => (1 : Int32) = r2 ∧ RL δ (tI σ 10 w j v) u x) (nI i) (nI j) (bI b) σm) := by
      rintro t0 rfl v hv
      exact dr_e (gS G i j) b (fun r => mw_shut (fun r2 u => r = r2 ∧ RL δ (tI σ 10 w j v) u x) (nI i) (nI j) (bI b) σm) (fin v hv _ rfl)
    rw [pcl g8, (h.rc.2.2.2.2.2.2 j hj).2.1, e_sh hn hi]
    refine ⟨pin g8, bI_if (fun z => ⟨w, h.wE, bI_if (fun y => ⟨pin g8, pin g8, ?_⟩) (fun y => ⟨pin g8, pin g8, ?_⟩)⟩) (fun z => ⟨w, h.wE, bI_if (fun y => ⟨pin g8, pin g8, ?_⟩) (fun y => ⟨pin g8, pin g8, ?_⟩)⟩)⟩
    all_goals
      rintro σ1 rfl
      refine go _ (by rw [z]; rfl) _ ?_
      rw [y] at ec
      rw [(h.rc.2.2.2.2.2.2 j hj).2.1]
      exact ec
