/-! pairs, most, back, opens, thingOf -/
theorem su_bI {p : Nat → Bool} : ∀ {n : Nat}, ∃ c, c ≤ n ∧ su (fun b => bI (p b)) n = nI c
  | 0 => ⟨0, Nat.le_refl _, rfl⟩
  | n + 1 => by
    obtain ⟨c, hc, e⟩ := su_bI (p := p) (n := n)
    rw [su_s, e]
    cases h : p n with
    | false => exact ⟨c, by omega, by rw [bI_f, Int32.add_zero]⟩
    | true => exact ⟨c + 1, by omega, by rw [bI_t, nI_1]⟩
/-- pairs that see each other -/
def prB (G : Gd) (a b : Nat) : Bool := inB G a b && inB G b a
def prN (G : Gd) : Int32 := su (fun a => su (fun b => bI (prB G a b)) a) (gN G)
/-- how many houses a house sees into -/
def ctN (G : Gd) (i : Nat) : Int32 := su (fun j => bI (inB G j i)) (gN G)
def mst (G : Gd) : Nat → Int32 × Int32
  | 0 => (-1, -1)
  | k + 1 => if hs G k = true ∧ ((mst G k).1 = -1 ∨ ¬ ctN G k ≤ (mst G k).2) then (nI k, ctN G k) else mst G k
theorem mst_s (G : Gd) (k : Nat) : mst G (k + 1) = if hs G k = true ∧ ((mst G k).1 = -1 ∨ ¬ ctN G k ≤ (mst G k).2) then (nI k, ctN G k) else mst G k := rfl
theorem mst_0 (G : Gd) : ∀ k, k ≤ 8 → (mst G k).1 = -1 → (mst G k).2 = -1
  | 0, _, _ => rfl
  | k + 1, h, e => by
    rw [mst_s] at e ⊢
    by_cases c : hs G k = true ∧ ((mst G k).1 = -1 ∨ ¬ ctN G k ≤ (mst G k).2)
    · rw [if_pos c] at e
      exact absurd e (nI_m1 (by omega))
    · rw [if_neg c] at e ⊢
      exact mst_0 G k (by omega) e
theorem ct_pos (G : Gd) (hn : gN G ≤ 8) (i : Nat) : ¬ ctN G i ≤ -1 := by
  obtain ⟨c, hc, e⟩ := su_bI (p := fun j => inB G j i) (n := gN G)
  have : ctN G i = nI c := e
  rw [this]
  have k : ∀ c, c ≤ 8 → ¬ nI c ≤ -1 := by decide
  exact k c (by omega)
/-- where it leads back to -/
def bkF (G : Gd) (t : Nat) : Nat → Nat → Nat → Int32
  | 0, _, _ => -1
  | m + 1, k, a => if fst (srB G a) (gN G) 0 = -1 then -1 else if fst (srB G a) (gN G) 0 = nI t then nI k else bkF G t m (k + 1) (fst (srB G a) (gN G) 0).toNatClampNeg
theorem bkF_s (G : Gd) (t m k a : Nat) : bkF G t (m + 1) k a = if fst (srB G a) (gN G) 0 = -1 then -1 else if fst (srB G a) (gN G) 0 = nI t then nI k else bkF G t m (k + 1) (fst (srB G a) (gN G) 0).toNatClampNeg := rfl
theorem sr_h {G : Gd} {a t : Nat} (h : srB G a t = true) : hs G t = true := by
  unfold srB inB at h
  simp at h
  exact h.1.1.1.2
section PE
variable {G : Gd} {tr x w : Nat} {sh : Nat → Nat} {δ : XSh} {σ : XSt} {σm : MSt} {i j g : Nat} {K : Int32 → Prop}
theorem mp_pairs (hU : gU G) (hR : RM G σm) (hK : K (prN G)) : mw_pairs σm K := by
  have hn := hU.1
  unfold mw_pairs
  refine lpU (fun n s i => mw_pairs_4 σm K n s i) (fun i s => s = su (fun a => su (fun b => bI (prB G a b)) a) i) (gN G) 0 rfl ?_ ?_
  · intro n s hs
    show mw_pairs_4_b σm K (mw_pairs_4 σm K n) s (nI (gN G))
    unfold mw_pairs_4_b
    rw [hR.1]
    exact br_t (nI_le (Nat.le_refl _) (by omega)) (by rw [hs]; exact hK)
  · intro n a s ha hs L
    subst hs
    show mw_pairs_4_b σm K (mw_pairs_4 σm K n) _ (nI a)
    unfold mw_pairs_4_b
    rw [hR.1]
    refine br_f (nI_ge ha (by omega)) ?_
    refine lpU (fun n s i => mw_pairs_14 σm K _ n s (nI a) i) (fun b s => s = su (fun a => su (fun b => bI (prB G a b)) a) a + su (fun b => bI (prB G a b)) b) a _ (by rw [show su (fun b => bI (prB G a b)) 0 = 0 from rfl, Int32.add_zero]) ?_ ?_
    · intro m s hs
      show mw_pairs_14_b σm K _ (mw_pairs_14 σm K _ m) s (nI a) (nI a)
      unfold mw_pairs_14_b
      exact br_t (nI_le (Nat.le_refl _) (by omega)) (L _ hs)
    · intro m b s hb hs L2
      show mw_pairs_14_b σm K _ (mw_pairs_14 σm K _ m) s (nI a) (nI b)
      unfold mw_pairs_14_b
      have no : prB G a b = false → s = su (fun a => su (fun b => bI (prB G a b)) a) a + su (fun b => bI (prB G a b)) (b + 1) := fun z => by
        rw [su_s, z, bI_f, Int32.add_zero]; exact hs
      refine br_f (nI_ge hb (by omega)) (mp_isHouse hR hn ha (hU.2.2.1 a ha).1 (bI_if (fun c => L2 _ (no ?_)) (fun c => mp_isHouse hR hn (by omega) (hU.2.2.1 b (by omega)).1 (bI_if (fun d => L2 _ (no ?_)) (fun d => mp_isSeen hU hR ha (by omega) c d (bI_if (fun e => L2 _ (no ?_)) (fun e => mp_isSeen hU hR (by omega) ha d c (bI_if (fun f => L2 _ (no ?_)) (fun f => L2 _ ?_)))))))))
      · simp [prB, inB, c]
      · simp [prB, inB, d]
      · simp [prB, inB, e]
      · simp [prB, inB, f]
      · have n1 : ¬ b = a := by omega
        have n2 : ¬ a = b := by omega
        have : prB G a b = true := by simp [prB, inB, c, d, e, f, n1, n2]
        rw [su_s, this, bI_t, hs, Int32.add_assoc]
theorem xp_pairs (h : RQ G w tr sh δ σ σm x) (hK : K (prN G)) : xw_S_pairs δ σ K x := by
  have hn := h.n
  unfold xw_S_pairs
  refine lpU (fun n s i => xw_S_pairs_4 δ σ K x n s i) (fun i s => s = su (fun a => su (fun b => bI (prB G a b)) a) i) (gN G) 0 rfl ?_ ?_
  · intro n s hs
    show xw_S_pairs_4_b δ σ K x (xw_S_pairs_4 δ σ K x n) s (nI (gN G))
    unfold xw_S_pairs_4_b
    refine ⟨w, h.wE, ?_⟩
    rw [h.rc.1]
    exact br_t (nI_le (Nat.le_refl _) (by omega)) (by rw [hs]; exact hK)
  · intro n a s ha hs L
    subst hs
    show xw_S_pairs_4_b δ σ K x (xw_S_pairs_4 δ σ K x n) _ (nI a)
    unfold xw_S_pairs_4_b
    refine ⟨w, h.wE, ?_⟩
    rw [h.rc.1]
    refine br_f (nI_ge ha (by omega)) (xp_into h.u h.rc ha ?_)
    refine lpU (fun n s i => xw_S_pairs_27 δ σ K x _ n s (nI a) (into G a) i) (fun b s => s = su (fun a => su (fun b => bI (prB G a b)) a) a + su (fun b => bI (prB G a b)) b) a _ (by rw [show su (fun b => bI (prB G a b)) 0 = 0 from rfl, Int32.add_zero]) ?_ ?_
    · intro m s hs
      show xw_S_pairs_27_b δ σ K x _ (xw_S_pairs_27 δ σ K x _ m) s (nI a) (into G a) (nI a)
      unfold xw_S_pairs_27_b
      exact br_t (nI_le (Nat.le_refl _) (by omega)) (L _ hs)
    · intro m b s hb hs L2
      show xw_S_pairs_27_b δ σ K x _ (xw_S_pairs_27 δ σ K x _ m) s (nI a) (into G a) (nI b)
      unfold xw_S_pairs_27_b
      have no : prB G a b = false → s + 0 = su (fun a => su (fun b => bI (prB G a b)) a) a + su (fun b => bI (prB G a b)) (b + 1) := fun z => by
        rw [su_s, z, bI_f, Int32.add_zero, Int32.add_zero]; exact hs
      have e1 : (into G a >>> (nI b &&& 31)) &&& 1 = bI (inB G a b) := e_sh hn (by omega)
      rw [e1]
      refine br_f (nI_ge hb (by omega)) (bI_if (fun c => L2 _ (no ?_)) (fun c => ⟨w, h.wE, xp_into h.u h.rc (by omega) ?_⟩))
      · simp [prB, c]
      · have e2 : (into G b >>> (nI a &&& 31)) &&& 1 = bI (inB G b a) := e_sh hn ha
        rw [e2]
        refine bI_if (fun d => L2 _ (no ?_)) (fun d => L2 _ ?_)
        · simp [prB, d]
        · have : prB G a b = true := by simp [prB, c, d]
          rw [su_s, this, bI_t, hs, Int32.add_assoc]
end PE
theorem pl_pairs : Pl_pairs RL := by
  intro δ σ σm x h
  obtain ⟨G, w, tr, sh, h⟩ := h
  exact xp_pairs h (mp_pairs h.u h.rm ⟨rfl, h.rl⟩)
section PE2
variable {G : Gd} {tr x w : Nat} {sh : Nat → Nat} {δ : XSh} {σ : XSt} {σm : MSt} {i j g t : Nat} {K : Int32 → MSt → Prop} {KX : Int32 → XSh → XSt → Prop}
theorem mp_most (hU : gU G) (hR : RM G σm) (h0 : (mst G (gN G)).1 = -1 → K (-nI 5) (sI σm 6 5 (σm.2.1 6 5 + 1))) (h1 : ¬ (mst G (gN G)).1 = -1 → K (mst G (gN G)).1 σm) : mw_most K σm := by
  have hn := hU.1
  unfold mw_most
  refine lpU (fun n (s : Int32 × Int32) i => mw_most_6 K n s.1 s.2 i σm) (fun i s => s.1 = (mst G i).1 ∧ (¬ s.1 = -1 → s.2 = (mst G i).2)) (gN G) (-1, 0) ⟨rfl, fun z => absurd rfl z⟩ ?_ ?_
  · intro n s hs
    show mw_most_6_b K (mw_most_6 K n) s.1 s.2 (nI (gN G)) σm
    unfold mw_most_6_b
    rw [hR.1, hs.1]
    exact br_t (nI_le (Nat.le_refl _) (by omega)) ⟨fun z => h1 z, fun z => mp_no 5 (by decide) (by decide) (h0 z)⟩
  · intro n a s ha hs L
    show mw_most_6_b K (mw_most_6 K n) s.1 s.2 (nI a) σm
    unfold mw_most_6_b
    rw [hR.1]
    refine br_f (nI_ge ha (by omega)) (mp_isHouse hR hn ha (hU.2.2.1 a ha).1 (bI_fi (fun c => ?_) (fun c => ?_)))
    · refine L s ?_
      rw [mst_s, if_neg (fun z => by rw [c] at z; exact absurd z.1 (by decide))]
      exact hs
    · refine lpU (fun n v i => mw_most_31 K (mw_most_6 K _) n s.1 s.2 (nI a) v i σm) (fun j v => v = su (fun j => bI (inB G j a)) j) (gN G) 0 rfl ?_ ?_
      · intro m v hv
        show mw_most_31_b K _ (mw_most_31 K _ m) s.1 s.2 (nI a) v (nI (gN G)) σm
        unfold mw_most_31_b mw_most_88
        have ev : v = ctN G a := hv
        rw [hR.1, ev]
        refine br_t (nI_le (Nat.le_refl _) (by omega)) ⟨fun z => L (nI a, ctN G a) ?_, fun z => ⟨fun y => L (nI a, ctN G a) ?_, fun y => L s ?_⟩⟩
        · rw [mst_s, if_pos ⟨c, Or.inl (hs.1 ▸ z)⟩]; exact ⟨rfl, fun _ => rfl⟩
        · rw [mst_s, if_pos ⟨c, Or.inr (by rw [← hs.2 z]; exact Int32.not_le.mpr y)⟩]; exact ⟨rfl, fun _ => rfl⟩
        · rw [mst_s, if_neg]
          · exact hs
          · rintro ⟨-, q | q⟩
            · exact z (hs.1.trans q)
            · rw [← hs.2 z] at q; exact q (Int32.not_lt.mp y)
      · intro m j v hj hv L2
        show mw_most_31_b K _ (mw_most_31 K _ m) s.1 s.2 (nI a) v (nI j) σm
        unfold mw_most_31_b mw_most_88
        have no : inB G j a = false → v = su (fun j => bI (inB G j a)) (j + 1) := fun z => by rw [su_s, z, bI_f, Int32.add_zero]; exact hv
        rw [hR.1]
        refine br_f (nI_ge hj (by omega)) ⟨fun d => L2 _ (no ?_), fun d => mp_isHouse hR hn hj (hU.2.2.1 j hj).1 (bI_if (fun f => L2 _ (no ?_)) (fun f => mp_isSeen hU hR ha hj c f (bI_if (fun u => L2 _ (no ?_)) (fun u => L2 _ ?_))))⟩
        · have := (nI_eq (by omega) (by omega)).mp d
          simp [inB, this]
        · simp [inB, f]
        · simp [inB, u]
        · have : ¬ a = j := fun q => d (by rw [q])
          have e : inB G j a = true := by simp [inB, this, c, f, u]
          rw [su_s, e, bI_t, hv]
theorem xp_most (h : RQ G w tr sh δ σ σm x) (h0 : (mst G (gN G)).1 = -1 → ∀ q δ1 σ1, NewRe (-nI 5) δ σ q δ1 σ1 → xw_S_refused δ1 (fun r σ2 => KX r δ1 σ2) x q σ1) (h1 : ¬ (mst G (gN G)).1 = -1 → KX (mst G (gN G)).1 δ σ) : xw_S_most KX x δ σ := by
  have hn := h.n
  unfold xw_S_most
  refine lpU (fun n (s : Int32 × Int32) i => xw_S_most_6 KX x n s.1 s.2 i δ σ) (fun i s => s = mst G i) (gN G) (-1, -1) rfl ?_ ?_
  · intro n s hs
    subst hs
    show xw_S_most_6_b KX x (xw_S_most_6 KX x n) (mst G (gN G)).1 (mst G (gN G)).2 (nI (gN G)) δ σ
    unfold xw_S_most_6_b xw_S_most_97
    refine ⟨w, h.wE, ?_⟩
    rw [h.rc.1]
    exact br_t (nI_le (Nat.le_refl _) (by omega)) ⟨fun z => xp_need (b := false) (fun _ => h0 z) (fun y => by cases y), fun z => xp_need (b := true) (fun y => by cases y) (fun _ => h1 z)⟩
  · intro n a s ha hs L
    subst hs
    show xw_S_most_6_b KX x (xw_S_most_6 KX x n) (mst G a).1 (mst G a).2 (nI a) δ σ
    unfold xw_S_most_6_b
    refine ⟨w, h.wE, ?_⟩
    rw [h.rc.1]
    refine br_f (nI_ge ha (by omega)) ?_
    refine lpU (fun n v i => xw_S_most_23 KX x (xw_S_most_6 KX x _) n (mst G a).1 (mst G a).2 (nI a) v i δ σ) (fun j v => v = su (fun j => bI (inB G j a)) j) (gN G) 0 rfl ?_ ?_
    · intro m v hv
      show xw_S_most_23_b KX x _ (xw_S_most_23 KX x _ m) (mst G a).1 (mst G a).2 (nI a) v (nI (gN G)) δ σ
      unfold xw_S_most_23_b
      refine ⟨w, h.wE, ?_⟩
      have ev : v = ctN G a := hv
      rw [h.rc.1, ev]
      refine br_t (nI_le (Nat.le_refl _) (by omega)) (xp_house h.rc h.u ha (bI_if (fun c => L (mst G a) ?_) (fun c => ⟨fun z => L (mst G a) ?_, fun z => L (nI a, ctN G a) ?_⟩)))
      · rw [mst_s, if_neg (fun z => by rw [c] at z; exact absurd z.1 (by decide))]
      · rw [mst_s, if_neg]
        rintro ⟨-, q | q⟩
        · rw [mst_0 G a (by omega) q] at z
          exact ct_pos G hn a z
        · exact q z
      · rw [mst_s, if_pos ⟨c, Or.inr z⟩]
    · intro m j v hj hv L2
      show xw_S_most_23_b KX x _ (xw_S_most_23 KX x _ m) (mst G a).1 (mst G a).2 (nI a) v (nI j) δ σ
      unfold xw_S_most_23_b
      refine ⟨w, h.wE, ?_⟩
      rw [h.rc.1]
      refine br_f (nI_ge hj (by omega)) (xp_into h.u h.rc hj (L2 _ ?_))
      have e1 : (into G j >>> (nI a &&& 31)) &&& 1 = bI (inB G j a) := e_sh hn ha
      rw [e1, hv, su_s]
theorem mp_back (hU : gU G) (hR : RM G σm) (ht : t < gN G) (qt : hs G t = true) (hK : K (bkF G t 8 1 t) σm) : mw_back K (nI t) σm := by
  have hn := hU.1
  unfold mw_back
  refine mp_barred_h hR hU ht ?_
  rw [qt]
  refine ⟨fun _ => ?_, fun z => absurd rfl z⟩
  refine lpF (fun n (s : Int32) i => mw_back_21 K n (nI t) s i σm) (fun k s => ∃ a, a < gN G ∧ hs G a = true ∧ s = nI a ∧ K (bkF G t (9 - k) k a) σm) 9 1 (nI t) (by decide) ⟨t, ht, qt, rfl, by rw [show 9 - 1 = 8 from rfl]; exact hK⟩ ?_ ?_
  · rintro n s ⟨a, ha, qa, rfl, hk⟩
    show mw_back_21_b K (mw_back_21 K n) (nI t) (nI a) (nI 9) σm
    unfold mw_back_21_b
    exact br_t (by decide) hk
  · rintro n k s k1 k9 ⟨a, ha, qa, rfl, hk⟩ L
    show mw_back_21_b K (mw_back_21 K n) (nI t) (nI a) (nI k) σm
    unfold mw_back_21_b
    have e : 9 - k = (9 - (k + 1)) + 1 := by omega
    rw [e, bkF_s] at hk
    have n8 : ¬ (8 : Int32) < nI k := nI_nlt (b := 8) (a := 8) |> fun _ => by
      have : ∀ k, k < 9 → ¬ (8 : Int32) < nI k := by decide
      exact this k k9
    refine br_f n8 (mp_seersOf hU hR ha qa (mp_firstOf ?_))
    have ef : fst (bt (sr G a)) 8 0 = fst (srB G a) (gN G) 0 := fst_cut hn
    rw [ef]
    refine ⟨fun z => ⟨fun y => ?_, fun y => ?_⟩, fun z => ?_⟩
    · rw [if_neg z, if_neg y] at hk
      rcases @fst_ge (srB G a) (gN G) 0 with q | ⟨u, -, hu, qu, -, q⟩
      · exact absurd q z
      · rw [q] at hk ⊢
        rw [pcl (by omega)] at hk
        exact L _ ⟨u, by omega, sr_h qu, rfl, hk⟩
    · rw [if_neg z, if_pos y] at hk; exact hk
    · rw [if_pos z] at hk; exact hk
theorem xp_back (h : RQ G w tr sh δ σ σm x) (ht : t < gN G) (qt : hs G t = true) (hK : KX (bkF G t 8 1 t) δ σ) : ∃ n, xw_S_back_9 KX x n (nI t) (nI t) 1 δ σ := by
  have hn := h.n
  refine lpF (fun n (s : Int32) i => xw_S_back_9 KX x n (nI t) s i δ σ) (fun k s => ∃ a, a < gN G ∧ hs G a = true ∧ s = nI a ∧ KX (bkF G t (9 - k) k a) δ σ) 9 1 (nI t) (by decide) ⟨t, ht, qt, rfl, by rw [show 9 - 1 = 8 from rfl]; exact hK⟩ ?_ ?_
  · rintro n s ⟨a, ha, qa, rfl, hk⟩
    show xw_S_back_9_b KX x (xw_S_back_9 KX x n) (nI t) (nI a) (nI 9) δ σ
    unfold xw_S_back_9_b
    exact br_t (by decide) hk
  · rintro n k s k1 k9 ⟨a, ha, qa, rfl, hk⟩ L
    show xw_S_back_9_b KX x (xw_S_back_9 KX x n) (nI t) (nI a) (nI k) δ σ
    unfold xw_S_back_9_b
    have e : 9 - k = (9 - (k + 1)) + 1 := by omega
    rw [e, bkF_s] at hk
    have n8 : ¬ (8 : Int32) < nI k := by
      have : ∀ k, k < 9 → ¬ (8 : Int32) < nI k := by decide
      exact this k k9
    refine br_f n8 ⟨w, h.wE, xp_seers h.u h.rc ha ?_⟩
    have ef : fst (bt (sr G a)) 8 0 = fst (srB G a) (gN G) 0 := fst_cut hn
    refine ⟨fun z => xp_ntz (sm_bm _ hn) z ?_, fun z => ?_⟩
    · rw [ef]
      have nz : ¬ fst (srB G a) (gN G) 0 = -1 := fun q => z ((bm_z hn).mpr q)
      refine ⟨fun y => ?_, fun y => ?_⟩
      · rw [if_neg nz, if_neg y] at hk
        rcases @fst_ge (srB G a) (gN G) 0 with q | ⟨u, -, hu, qu, -, q⟩
        · exact absurd q nz
        · rw [q] at hk ⊢
          rw [pcl (by omega)] at hk
          exact L _ ⟨u, by omega, sr_h qu, rfl, hk⟩
      · rw [if_neg nz, if_pos y] at hk; exact hk
    · rw [if_pos ((bm_z hn).mp z)] at hk; exact hk
end PE2
theorem pl_most : Pl_most RL := by
  intro δ σ σm x h
  obtain ⟨G, w, tr, sh, h⟩ := h
  exact xp_most h (fun z q δ1 σ1 hN => xp_refuse 5 (by decide) (by decide) h hN (fun σ2 hr => mp_most h.u h.rm (fun _ => ⟨rfl, hr⟩) (fun y => absurd z y))) (fun z => mp_most h.u h.rm (fun y => absurd y z) (fun _ => ⟨rfl, h.rl⟩))
theorem pl_back : Pl_back RL := by
  intro δ σ σm x h x1
  obtain ⟨G, w, tr, sh, h⟩ := h
  unfold xw_S_back
  refine xp_mustHouse h (fun c q δ1 σ1 hN => xp_refuse 1 (by decide) (by decide) h hN (fun σ2 hr => ?_)) (fun i hi e c q δ1 σ1 hN => xp_refuse 2 (by decide) (by decide) h hN (fun σ2 hr => ?_)) (fun i hi e c => ?_)
  · exact mp_barred_1 h.rm h.u c ⟨fun z => absurd z (by decide), fun _ => mp_noTen 1 (by decide) (by decide) ⟨rfl, hr⟩⟩
  · subst e
    refine mp_barred_h h.rm h.u hi ?_
    rw [c]
    exact ⟨fun z => absurd z (by decide), fun _ => mp_noTen 2 (by decide) (by decide) ⟨rfl, hr⟩⟩
  · subst e
    exact xp_back h hi c (mp_back h.u h.rm hi c ⟨rfl, h.rl⟩)
