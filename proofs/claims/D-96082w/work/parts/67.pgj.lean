/-! night, newly, thing -/
theorem gC_flip {f : Nat → Bool} {n i : Nat} (hn : n ≤ 8) (hi : i < n) : bm f n ^^^ ((1 : Int32) <<< (nI i &&& 31)) = bm (fun t => if t = i then !f t else f t) n := b_ext (fun t ht => by
  rw [b_xor, bm_bt _ (by omega) ht, bt_sh (by omega) ht, bm_bt _ (by omega) ht]
  by_cases q : t = i
  · subst q; simp [hi]
  · simp [q])
def flC (G : Gd) (i : Nat) : Gd := setC G (fun t => if t = i then !gC G t else gC G t)
theorem RM.flip {G : Gd} {u : MSt} {i : Nat} (h : RM G u) (hi : i < gN G) : RM (flC G i) (sI u 12 i (1 - u.2.1 12 i)) := by
  refine h.cur (fun t _ q => if_neg q) ?_
  rw [(h.2.2.2.2.2 i hi).2.2.2.2.2.1, if_pos rfl]
  cases gC G i <;> rfl
theorem RM.flop {G : Gd} {u : MSt} {i : Nat} (h : RM (flC G i) u) (hi : i < gN G) : RM G (sI u 12 i (1 - u.2.1 12 i)) := by
  have h2 := RM.flip (G := flC G i) h hi
  refine RM.cgC (G := G) (f := fun t => if t = i then !gC (flC G i) t else gC (flC G i) t) (f' := gC G) h2 (fun t _ => ?_)
  show (if t = i then !(if t = i then !gC G t else gC G t) else (if t = i then !gC G t else gC G t)) = gC G t
  by_cases q : t = i
  · simp [q]
  · simp [q]
def ntB (G : Gd) (y : Int32) (i : Nat) : Bool := hs G i && decide (rt (flC G i) = y)
theorem mp_night {G : Gd} {σm : MSt} {K : Int32 → MSt → Prop} {y : Int32} (hW : gW G) (hR : RM G σm) (h0 : ¬ y < 0) (hz : y &&& (hsM G ^^^ (-1)) = 0) (hK : ∀ u, RM G u → Mg σm u → K (bm (ntB G y) (gN G)) u) : mw_night K y σm := by
  have hn := hW.1
  unfold mw_night
  refine br_f h0 (mp_houses hW.u hR ⟨fun _ => ?_, fun z => absurd hz z⟩)
  refine lpU (fun n (s : Int32 × MSt) i => mw_night_26 K n y s.1 i s.2) (fun i s => s.1 = bm (ntB G y) i ∧ RM G s.2 ∧ Mg σm s.2) (gN G) (0, σm) ⟨rfl, hR, Mg.rf⟩ ?_ ?_
  · rintro n ⟨v, u⟩ ⟨hv, u1, u2⟩
    show mw_night_26_b K (mw_night_26 K n) y v (nI (gN G)) u
    unfold mw_night_26_b
    have hv : v = bm (ntB G y) (gN G) := hv
    rw [u1.1, hv]
    exact br_t (nI_le (Nat.le_refl _) (by omega)) (hK u u1 u2)
  · rintro n i ⟨v, u⟩ hi ⟨hv, u1, u2⟩ L
    have h8 : i < 8 := by omega
    show mw_night_26_b K (mw_night_26 K n) y v (nI i) u
    unfold mw_night_26_b mw_night_73
    have hv : v = bm (ntB G y) i := hv
    rw [u1.1, hv, pcl h8]
    refine br_f (nI_ge hi (by omega)) (mp_isHouse u1 hn hi (hW.u.2.2.1 i hi).1 (bI_fi (fun d => L (_, u) ⟨bm_f (by simp [ntB, d]), u1, u2⟩) (fun d => ⟨pin h8, pin h8, ?_⟩)))
    intro σ6 e6
    have r6 : RM (flC G i) σ6 := by rw [e6]; exact u1.flip hi
    have g6 : Mg σm σ6 := by rw [e6]; exact u2.tr (Mg.sI (by decide))
    clear e6
    refine mp_allRight (G := flC G i) hW.u r6 ⟨fun f => ⟨pin h8, pin h8, ?_⟩, fun f => ⟨pin h8, pin h8, ?_⟩⟩
    · rintro σ3 rfl
      exact L (_, _) ⟨bm_f (by simp [ntB, f]), r6.flop hi, g6.tr (Mg.sI (by decide))⟩
    · rintro σ3 rfl
      exact L (_, _) ⟨bm_t (by simp [ntB, d, f]), r6.flop hi, g6.tr (Mg.sI (by decide))⟩
theorem mp_night_n {G : Gd} {σm : MSt} {K : Int32 → MSt → Prop} {y : Int32} (hU : gU G) (hR : RM G σm) (hz : ¬ y &&& (hsM G ^^^ (-1)) = 0) (hK : K (-nI 6) (sI σm 6 6 (σm.2.1 6 6 + 1))) : mw_night K y σm := by
  unfold mw_night mw_night_15
  exact ⟨fun _ => mp_no 6 (by decide) (by decide) hK, fun _ => mp_houses hU hR ⟨fun z => absurd z hz, fun _ => mp_no 6 (by decide) (by decide) hK⟩⟩
theorem neg_bt {y : Int32} (h : y < 0) : bt y 31 = true := by
  have h2 : y.toInt < 0 := by
    rw [Int32.lt_iff_toInt_lt] at h
    have e0 : (0 : Int32).toInt = 0 := by decide
    omega
  have h3 : y.toBitVec.toInt < 0 := h2
  unfold bt
  have := BitVec.msb_eq_toInt (x := y.toBitVec)
  rw [BitVec.msb_eq_getLsbD_last] at this
  rw [show y.toBitVec.getLsbD 31 = decide (y.toBitVec.toInt < 0) from this]
  exact decide_eq_true h3
theorem pl_night : Pl_night RL := by
  intro δ σ σm x h y
  obtain ⟨G, w, tr, sh, h⟩ := h
  have hn := h.n
  unfold xw_S_night xw_S_night_19
  refine ⟨w, h.wE, xp_houses h.rc h.u ⟨fun c => ?_, fun c => ?_⟩⟩
  · exact xp_need (b := false) (fun _ q δ1 σ1 hN => xp_refuse 6 (by decide) (by decide) h hN (fun σ2 hr => mp_night_n h.u h.rm c ⟨rfl, hr⟩)) (fun z => by cases z)
  · refine xp_need (b := true) (fun z => by cases z) (fun _ => ?_)
    have h0 : ¬ y < 0 := by
      intro z
      have := neg_bt z
      have e : bt (y &&& (hsM G ^^^ (-1))) 31 = true := by
        rw [b_and, b_xor, this, b_m1 31 (by decide)]
        have : bt (hsM G) 31 = false := sm_bt (sm_bm _ hn) (by decide)
        rw [this]; rfl
      rw [c, b_0] at e
      cases e
    have fin : ∀ σ', Kp tr δ σ δ σ' → mw_night (fun r2 u => bm (ntB G y) (gN G) = r2 ∧ RL δ σ' u x) y σm := fun σ' k => mp_night h.1 h.rm h0 c (fun u u1 u2 => ⟨rfl, ((h.kp k).mg u1 u2).rl⟩)
    refine lpU (fun n (s : Int32 × XSt) i => xw_S_night_28 (fun r δ1 σ1 => mw_night (fun r2 u => r = r2 ∧ RL δ1 σ1 u x) y σm) x n y s.1 i δ s.2) (fun i s => s.1 = bm (ntB G y) i ∧ Kp tr δ σ δ s.2) (gN G) (0, σ) ⟨rfl, Kp.rf⟩ ?_ ?_
    · rintro n ⟨v, u⟩ ⟨hv, k⟩
      show xw_S_night_28_b (fun r δ1 σ1 => mw_night (fun r2 u => r = r2 ∧ RL δ1 σ1 u x) y σm) x (xw_S_night_28 (fun r δ1 σ1 => mw_night (fun r2 u => r = r2 ∧ RL δ1 σ1 u x) y σm) x n) y v (nI (gN G)) δ u
      unfold xw_S_night_28_b
      have h' := h.kp k
      refine ⟨w, h'.wE, ?_⟩
      have hv : v = bm (ntB G y) (gN G) := hv
      rw [h'.rc.1, hv]
      exact br_t (nI_le (Nat.le_refl _) (by omega)) (fin u k)
    · rintro n i ⟨v, u⟩ hi ⟨hv, k⟩ L
      show xw_S_night_28_b (fun r δ1 σ1 => mw_night (fun r2 u => r = r2 ∧ RL δ1 σ1 u x) y σm) x (xw_S_night_28 (fun r δ1 σ1 => mw_night (fun r2 u => r = r2 ∧ RL δ1 σ1 u x) y σm) x n) y v (nI i) δ u
      unfold xw_S_night_28_b
      have h' := h.kp k
      refine ⟨w, h'.wE, ?_⟩
      have hv : v = bm (ntB G y) i := hv
      rw [h'.rc.1, hv]
      refine br_f (nI_ge hi (by omega)) (xp_house h'.rc h.u hi (bI_if (fun d => L (_, u) ⟨bm_f (by simp [ntB, d]), k⟩) (fun d => ⟨tr, h'.tE, h'.take (fun σ' c1 k1 => ?_)⟩)))
      rintro σ8 rfl
      have k8 := (k.tr k1).tr (Kp.tI (g := tr) (k := 6) (j := 3) (v := σ'.1 6 tr 3 ^^^ ((1 : Int32) <<< (nI i &&& 31))) (δ := δ) (σ := σ') ig6)
      have c8 : RC (flC G i) δ (tI σ' 6 tr 3 (σ'.1 6 tr 3 ^^^ ((1 : Int32) <<< (nI i &&& 31)))) tr := c1.cur (by rw [c1.draw]; exact gC_flip hn hi)
      refine ⟨tr, (h.kp k8).tE, xp_right (G := flC G i) h.u c8 ⟨fun f => L (_, _) ⟨bm_o (by simp [ntB, f]), k8⟩, fun f => L (_, _) ⟨bm_t (by simp [ntB, d, f]), k8⟩⟩⟩
/-- the best of those that may be -/
def arg (ok : Nat → Bool) (v : Nat → Int32) : Nat → Int32 × Int32
  | 0 => (-1, -1)
  | k + 1 => if ok k = true ∧ ((arg ok v k).1 = -1 ∨ ¬ v k ≤ (arg ok v k).2) then (nI k, v k) else arg ok v k
theorem arg_s (ok : Nat → Bool) (v : Nat → Int32) (k : Nat) : arg ok v (k + 1) = if ok k = true ∧ ((arg ok v k).1 = -1 ∨ ¬ v k ≤ (arg ok v k).2) then (nI k, v k) else arg ok v k := rfl
theorem nI_m1' {t : Nat} (h : t < 2 ^ 31) : ¬ nI t = -1 := by
  intro z
  have := congrArg Int32.toInt z
  rw [nI_toInt h] at this
  have e : (-1 : Int32).toInt = -1 := by decide
  rw [e] at this
  omega
theorem arg_0 {ok : Nat → Bool} {v : Nat → Int32} : ∀ k, k < 2 ^ 31 → (arg ok v k).1 = -1 → (arg ok v k).2 = -1
  | 0, _, _ => rfl
  | k + 1, h, e => by
    rw [arg_s] at e ⊢
    by_cases c : ok k = true ∧ ((arg ok v k).1 = -1 ∨ ¬ v k ≤ (arg ok v k).2)
    · rw [if_pos c] at e
      exact absurd e (nI_m1' (by omega))
    · rw [if_neg c] at e ⊢
      exact arg_0 k (by omega) e
theorem pc_pos {x : Int32} : ∃ c, c ≤ 8 ∧ pc x = nI c := by
  rw [pc_su]
  exact su_bI (p := bt x) (n := 8)
theorem pc_m1 (x : Int32) : ¬ pc x ≤ -1 := by
  obtain ⟨c, hc, e⟩ := pc_pos (x := x)
  rw [e]
  have k : ∀ c, c ≤ 8 → ¬ nI c ≤ -1 := by decide
  exact k c hc
def nwO (G : Gd) (p : Nat) : Bool := decide (atI G (nI (p % 10)) (nI (p / 10)) = -1)
def nwV (G : Gd) (h : Int32) (p : Nat) : Int32 := pc (rt (addG G 1 (nI (p % 10)) (nI (p / 10)) h 0))
theorem mp_newly {G : Gd} {σm : MSt} {K : Int32 → MSt → Prop} {a : Nat} (hW : gW G) (hR : RM G σm) (hn : gN G < 8) (ha : a ≤ 20) (hK : ∀ u, RM G u → Mg σm u → K (arg (nwO G) (nwV G (nI a)) 100).1 u) : mw_newly K (nI a) σm := by
  unfold mw_newly
  have n8 : ¬ σm.1 0 = 8 := by
    rw [hR.1]
    intro z
    have := (nI_eq (b := 8) (by omega) (by decide)).mp z
    omega
  have l20 : nI a ≤ 20 := nI_le (b := 20) ha (by decide)
  refine br_f (nI_pos (by omega)) (br_t l20 ⟨fun _ => ?_, fun z => absurd z n8⟩)
  refine lpU (fun n (s : (Int32 × Int32) × MSt) i => mw_newly_40 K n (nI a) s.1.1 s.1.2 i s.2) (fun i s => s.1.1 = (arg (nwO G) (nwV G (nI a)) i).1 ∧ (¬ s.1.1 = -1 → s.1.2 = (arg (nwO G) (nwV G (nI a)) i).2) ∧ RM G s.2 ∧ Mg σm s.2) 100 ((-1, 0), σm) ⟨rfl, fun z => absurd rfl z, hR, Mg.rf⟩ ?_ ?_
  · rintro n ⟨⟨v1, v2⟩, u⟩ ⟨h1, h2, u1, u2⟩
    show mw_newly_40_b K (mw_newly_40 K n) (nI a) v1 v2 (nI 100) u
    unfold mw_newly_40_b
    have h1 : v1 = (arg (nwO G) (nwV G (nI a)) 100).1 := h1
    rw [h1]
    exact br_t (nI_le (Nat.le_refl 100) (by decide)) (hK u u1 u2)
  · rintro n p ⟨⟨v1, v2⟩, u⟩ hp ⟨h1, h2, u1, u2⟩ L
    show mw_newly_40_b K (mw_newly_40 K n) (nI a) v1 v2 (nI p) u
    have h1 : v1 = (arg (nwO G) (nwV G (nI a)) p).1 := h1
    have h2 : ¬ v1 = -1 → v2 = (arg (nwO G) (nwV G (nI a)) p).2 := h2
    unfold mw_newly_40_b mw_newly_120
    have e1 : nI p - nI p / 10 * 10 = nI (p % 10) := pk_rem (d := 10) (by omega) (by decide) (by decide)
    have e2 : nI p / 10 = nI (p / 10) := pk_div (d := 10) (by omega) (by decide) (by decide)
    rw [e1, e2]
    refine br_f (nI_ge (b := 100) hp (by decide)) (mp_at u1 hW.1 ⟨fun c => ?_, fun c => ?_⟩)
    · refine mp_adds (k := 1) u1 hn (fun v r g _ rb _ _ => ?_)
      have hW1 : gW (addG G 1 (nI (p % 10)) (nI (p / 10)) (nI a) (nI 0)) := hW.add hn (by decide) (by omega) (by omega) ha (by decide) c
      refine mp_allRight hW1.u r (mp_many (sm_bm _ hW1.1) ?_)
      have e0 : v.1 0 - 1 = nI (gN G) := by rw [r.1]; exact nI_pred (gN G)
      rw [e0]
      rintro σ8 rfl
      have ok : nwO G p = true := by simp [nwO, c]
      have g8 : Mg σm (sF v 0 (nI (gN G))) := (u2.tr g).tr (Mg.sF (by decide))
      refine ⟨fun z => L ((_, _), _) ⟨?_, fun _ => ?_, rb, g8⟩, fun z => ⟨fun y => L ((_, _), _) ⟨?_, fun _ => ?_, rb, g8⟩, fun y => L ((_, _), _) ⟨?_, fun _ => ?_, rb, g8⟩⟩⟩
      · rw [arg_s, if_pos ⟨ok, Or.inl (h1 ▸ z)⟩]; rfl
      · rw [arg_s, if_pos ⟨ok, Or.inl (h1 ▸ z)⟩]; rfl
      · rw [arg_s, if_pos ⟨ok, Or.inr (by rw [← h2 z]; exact Int32.not_le.mpr y)⟩]; rfl
      · rw [arg_s, if_pos ⟨ok, Or.inr (by rw [← h2 z]; exact Int32.not_le.mpr y)⟩]; rfl
      · rw [arg_s, if_neg]
        · exact h1
        · rintro ⟨-, q | q⟩
          · exact z (h1.trans q)
          · rw [← h2 z] at q; exact q (Int32.not_lt.mp y)
      · rw [arg_s, if_neg]
        · exact h2 z
        · rintro ⟨-, q | q⟩
          · exact z (h1.trans q)
          · rw [← h2 z] at q; exact q (Int32.not_lt.mp y)
    · have ok : ¬ nwO G p = true := by simp [nwO, c]
      refine L ((_, _), _) ⟨?_, fun z => ?_, u1, u2⟩
      · rw [arg_s, if_neg (fun z => ok z.1)]; exact h1
      · rw [arg_s, if_neg (fun z => ok z.1)]; exact h2 z
theorem pl_newly : Pl_newly RL := by
  intro δ σ σm x h x1
  obtain ⟨G, w, tr, sh, h⟩ := h
  have hn := h.n
  unfold xw_S_newly xw_S_newly_31 xw_S_newly_129
  refine xp_in (y := 0) (z := 20) (fun c => xp_need (b := false) (fun _ q δ1 σ1 hN => xp_refuse 6 (by decide) (by decide) h hN (fun σ2 hr => ?_)) (fun z => by cases z)) (fun c d => xp_need (b := true) (fun z => by cases z) (fun _ => ⟨w, h.wE, ?_⟩))
  · unfold mw_newly mw_newly_10
    refine ⟨fun _ => mp_no 6 (by decide) (by decide) ⟨rfl, hr⟩, fun a => ⟨fun b => ?_, fun _ => mp_no 6 (by decide) (by decide) ⟨rfl, hr⟩⟩⟩
    rcases c with c | c
    · exact absurd c a
    · exact absurd b (Int32.not_le.mpr c)
  · obtain ⟨a, ha, ea⟩ := nI_of2 (n := 20) (M := 20) (by decide) c (Int32.not_lt.mp d)
    subst ea
    rw [h.rc.1]
    refine ⟨fun z => ?_, fun z => ?_⟩
    · have e8 : gN G = 8 := by
        have := (nI_leI (a := 8) (by decide) (by omega)).mp z
        omega
      refine xp_need (b := false) (fun _ q δ1 σ1 hN => xp_refuse 7 (by decide) (by decide) h hN (fun σ2 hr => ?_)) (fun z => by cases z)
      unfold mw_newly
      refine br_f c (br_t (Int32.not_lt.mp d) ⟨fun y => absurd ?_ y, fun _ => mp_no 7 (by decide) (by decide) ⟨rfl, hr⟩⟩)
      rw [h.rm.1, e8]; rfl
    · have n8 : gN G < 8 := by
        rcases Nat.lt_or_ge (gN G) 8 with q | q
        · exact q
        · exact absurd (nI_le (a := 8) q (by omega)) z
      refine xp_need (b := true) (fun z => by cases z) (fun _ => ⟨100 + 1, by decide, ?_⟩)
      have fin : ∀ δ' σ', Kp tr δ σ δ' σ' → mw_newly (fun r2 u => (arg (nwO G) (nwV G (nI a)) 100).1 = r2 ∧ RL δ' σ' u x) (nI a) σm := fun δ' σ' k => mp_newly h.1 h.rm n8 ha (fun u u1 u2 => ⟨rfl, ((h.kp k).mg u1 u2).rl⟩)
      refine lpE (fun n (s : (Int32 × Int32) × XSh × XSt) i => xw_S_newly_43 (fun r δ1 σ1 => mw_newly (fun r2 u => r = r2 ∧ RL δ1 σ1 u x) (nI a) σm) x n (nI a) s.1.1 s.1.2 i s.2.1 s.2.2) (fun i s => s.1 = arg (nwO G) (nwV G (nI a)) i ∧ Kp tr δ σ s.2.1 s.2.2) 100 ((-1, -1), δ, σ) ⟨rfl, Kp.rf⟩ ?_ ?_
      · rintro n ⟨v, δ', u⟩ ⟨hv, k⟩
        have hv : v = arg (nwO G) (nwV G (nI a)) 100 := hv
        subst hv
        show xw_S_newly_43_b (fun r δ1 σ1 => mw_newly (fun r2 u => r = r2 ∧ RL δ1 σ1 u x) (nI a) σm) x (xw_S_newly_43 (fun r δ1 σ1 => mw_newly (fun r2 u => r = r2 ∧ RL δ1 σ1 u x) (nI a) σm) x n) (nI a) _ _ (nI 100) δ' u
        unfold xw_S_newly_43_b
        exact br_t (nI_le (Nat.le_refl 100) (by decide)) (fin δ' u k)
      · rintro n p ⟨v, δ', u⟩ hp ⟨hv, k⟩ L
        have hv : v = arg (nwO G) (nwV G (nI a)) p := hv
        subst hv
        show xw_S_newly_43_b (fun r δ1 σ1 => mw_newly (fun r2 u => r = r2 ∧ RL δ1 σ1 u x) (nI a) σm) x (xw_S_newly_43 (fun r δ1 σ1 => mw_newly (fun r2 u => r = r2 ∧ RL δ1 σ1 u x) (nI a) σm) x n) (nI a) _ _ (nI p) δ' u
        unfold xw_S_newly_43_b
        have h' := h.kp k
        have e1 : nI p - nI p / 10 * 10 = nI (p % 10) := pk_rem (d := 10) (by omega) (by decide) (by decide)
        have e2 : nI p / 10 = nI (p / 10) := pk_div (d := 10) (by omega) (by decide) (by decide)
        rw [e1, e2]
        refine br_f (nI_ge (b := 100) hp (by decide)) ⟨w, h'.wE, xp_isFree h'.rc hn (bI_if (fun f => L (_, δ', u) ⟨?_, k⟩) (fun f => ⟨tr, h'.tE, h'.take (fun σ' c1 k1 => ?_)⟩))⟩
        · rw [arg_s, if_neg (fun z => by have := z.1; unfold nwO at this; rw [f] at this; cases this)]
        · have fa : atI G (nI (p % 10)) (nI (p / 10)) = -1 := by simpa using f
          refine xp_add (k := 1) c1 (h'.kp k1).gt n8 (by decide) (fun δ2 σ2 c2 k2 _ => ?_)
          have hW1 : gW (addG G 1 (nI (p % 10)) (nI (p / 10)) (nI a) (nI 0)) := h.1.add n8 (by decide) (by omega) (by omega) ha (by decide) fa
          have kk := (k.tr k1).tr k2
          have ok : nwO G p = true := f
          refine ⟨tr, (h.kp kk).tE, xp_rights hW1.u c2 ⟨fun y => L (_, δ2, σ2) ⟨?_, kk⟩, fun y => L ((_, _), δ2, σ2) ⟨?_, kk⟩⟩⟩
          · rw [arg_s, if_neg]
            rintro ⟨-, q | q⟩
            · rw [arg_0 p (by omega) q] at y
              exact pc_m1 _ y
            · exact q y
          · rw [arg_s, if_pos ⟨ok, Or.inr y⟩]; rfl
theorem pl_thing : Pl_thing RL := by
  intro δ σ σm x h x1 x2 x3 x4 x5
  obtain ⟨G, w, tr, sh, h⟩ := h
  have hn := h.n
  have no6 : (¬ x1 < 0) → (x1 ≤ 6) → ((x2 < 0 ∨ 9 < x2) ∨ (x3 < 0 ∨ 9 < x3) ∨ (x4 < 0 ∨ 20 < x4) ∨ (x5 < 0 ∨ 9 < x5) ∨ ¬ atI G x2 x3 = -1) → ∀ q δ1 σ1, NewRe (-nI 6) δ σ q δ1 σ1 → xw_S_refused δ1 (fun r σ2 => mw_thing (fun r2 u => r = r2 ∧ RL δ1 σ2 u x) x1 x2 x3 x4 x5 σm) x q σ1 := by
    intro c1 c2 c q δ1 σ1 hN
    refine xp_refuse 6 (by decide) (by decide) h hN (fun σ2 hr => ?_)
    have n6 : mw_thing_70 (fun r2 u => -nI 6 = r2 ∧ RL δ1 σ2 u x) σm := mp_no 6 (by decide) (by decide) ⟨rfl, hr⟩
    unfold mw_thing
    refine br_f c1 (br_t c2 ⟨fun _ => n6, fun a1 => ⟨fun _ => n6, fun a2 => ⟨fun _ => n6, fun a3 => ⟨fun _ => n6, fun a4 => ⟨fun _ => n6, fun a5 => ⟨fun _ => n6, fun a6 => ⟨fun _ => n6, fun a7 => ⟨fun _ => n6, fun a8 => mp_at h.rm hn ⟨fun z => ?_, fun _ => n6⟩⟩⟩⟩⟩⟩⟩⟩⟩)
    rcases c with (c | c) | (c | c) | (c | c) | (c | c) | c
    · exact absurd c a1
    · exact absurd c a2
    · exact absurd c a3
    · exact absurd c a4
    · exact absurd c a5
    · exact absurd c a6
    · exact absurd c a7
    · exact absurd c a8
    · exact absurd z c
  unfold xw_S_thing xw_S_thing_67 xw_S_thing_68 xw_S_thing_104 xw_S_thing_124
  refine xp_in (y := 0) (z := 6) (fun c => xp_need (b := false) (fun _ q δ1 σ1 hN => xp_refuse 1 (by decide) (by decide) h hN (fun σ2 hr => ?_)) (fun z => by cases z)) (fun c d => xp_need (b := true) (fun z => by cases z) (fun _ => ?_))
  · unfold mw_thing mw_thing_10
    refine ⟨fun _ => mp_no 1 (by decide) (by decide) ⟨rfl, hr⟩, fun a => ⟨fun b => ?_, fun _ => mp_no 1 (by decide) (by decide) ⟨rfl, hr⟩⟩⟩
    rcases c with c | c
    · exact absurd c a
    · exact absurd b (Int32.not_le.mpr c)
  · have d' := Int32.not_lt.mp d
    refine xp_in (y := 0) (z := 9) (fun e => ⟨fun _ => xp_need (b := false) (fun _ => no6 c d' (Or.inl e)) (fun z => by cases z), fun z => absurd rfl z⟩) (fun e1 e2 => ⟨fun z => absurd z (by decide), fun _ => ?_⟩)
    refine xp_in (y := 0) (z := 9) (fun e => ⟨fun _ => xp_need (b := false) (fun _ => no6 c d' (Or.inr (Or.inl e))) (fun z => by cases z), fun z => absurd rfl z⟩) (fun f1 f2 => ⟨fun z => absurd z (by decide), fun _ => ?_⟩)
    refine xp_in (y := 0) (z := 20) (fun e => ⟨fun _ => xp_need (b := false) (fun _ => no6 c d' (Or.inr (Or.inr (Or.inl e)))) (fun z => by cases z), fun z => absurd rfl z⟩) (fun g1 g2 => ⟨fun z => absurd z (by decide), fun _ => ?_⟩)
    refine xp_in (y := 0) (z := 9) (fun e => ⟨fun _ => xp_need (b := false) (fun _ => no6 c d' (Or.inr (Or.inr (Or.inr (Or.inl e))))) (fun z => by cases z), fun z => absurd rfl z⟩) (fun i1 i2 => ⟨fun z => absurd z (by decide), fun _ => ?_⟩)
    refine xp_need (b := true) (fun z => by cases z) (fun _ => ⟨w, h.wE, xp_isFree h.rc hn (xp_need (fun e => no6 c d' (Or.inr (Or.inr (Or.inr (Or.inr ?_))))) (fun e => ⟨w, h.wE, ?_⟩))⟩)
    · simpa using e
    · have fr : atI G x2 x3 = -1 := by simpa using e
      have md : ∀ (K : Int32 → MSt → Prop), ((¬ σm.1 0 = 8) → mw_adds (fun r14 σ15 => K r14 σ15) x1 x2 x3 x4 x5 σm) → ((σm.1 0 = 8) → mw_no (fun r16 σ17 => K r16 σ17) (-7) σm) → mw_thing K x1 x2 x3 x4 x5 σm := fun K k1 k2 => br_f c (br_t d' (br_f e1 (br_f e2 (br_f f1 (br_f f2 (br_f g1 (br_f g2 (br_f i1 (br_f i2 (mp_at h.rm hn ⟨fun _ => ⟨k1, k2⟩, fun z => absurd fr z⟩))))))))))
      obtain ⟨k, hk, ek⟩ := nI_of2 (n := 6) (M := 6) (by decide) c d'
      obtain ⟨a, ha, ea⟩ := nI_of2 (n := 9) (M := 9) (by decide) e1 (Int32.not_lt.mp e2)
      obtain ⟨b, hb, eb⟩ := nI_of2 (n := 9) (M := 9) (by decide) f1 (Int32.not_lt.mp f2)
      obtain ⟨u, hu, eu⟩ := nI_of2 (n := 20) (M := 20) (by decide) g1 (Int32.not_lt.mp g2)
      obtain ⟨v, hv, ev⟩ := nI_of2 (n := 9) (M := 9) (by decide) i1 (Int32.not_lt.mp i2)
      rw [h.rc.1]
      refine ⟨fun z => ?_, fun z => ?_⟩
      · have e8 : gN G = 8 := by
          have := (nI_leI (a := 8) (by decide) (by omega)).mp z
          omega
        refine xp_need (b := false) (fun _ q δ1 σ1 hN => xp_refuse 7 (by decide) (by decide) h hN (fun σ2 hr => md _ (fun y => absurd ?_ y) (fun _ => mp_no 7 (by decide) (by decide) ⟨rfl, hr⟩))) (fun z => by cases z)
        rw [h.rm.1, e8]; rfl
      · have n8 : gN G < 8 := by
          rcases Nat.lt_or_ge (gN G) 8 with q | q
          · exact q
          · exact absurd (nI_le (a := 8) q (by omega)) z
        subst ek
        subst ea
        subst eb
        subst eu
        subst ev
        have hW1 := h.1.add n8 hk ha hb hu hv fr
        refine xp_need (b := true) (fun z => by cases z) (fun _ => ⟨w, h.wE, xp_add h.rc h.gw n8 hk (fun δ2 σ2 c2 k2 e8 => md _ (fun _ => mp_adds h.rm n8 (fun m m1 m2 _ _ _ _ => ⟨rfl, (h.upd hW1 m1 c2 k2 (Nat.le_succ _) e8 m2).rl⟩)) (fun y => ?_))⟩)
        exfalso
        rw [h.rm.1] at y
        have := (nI_eq (b := 8) (by omega) (by decide)).mp y
        omega
