/-! sums, first bits; calls that only ask -/
section RQP
variable {G : Gd} {tr x w : Nat} {sh : Nat → Nat} {δ : XSh} {σ : XSt} {σm : MSt}
theorem RQ.rl (h : RQ G w tr sh δ σ σm x) : RL δ σ σm x := ⟨G, w, tr, sh, h⟩
theorem RQ.u (h : RQ G w tr sh δ σ σm x) : gU G := h.1.u
theorem RQ.n (h : RQ G w tr sh δ σ σm x) : gN G ≤ 8 := h.1.1
theorem RQ.rm (h : RQ G w tr sh δ σ σm x) : RM G σm := h.2.1
theorem RQ.rc (h : RQ G w tr sh δ σ σm x) : RC G δ σ w := h.2.2.1
theorem RQ.wE (h : RQ G w tr sh δ σ σm x) : σ.2.2 0 x 4 = some w := h.2.2.2.1.2.2.2.2.2.1
theorem RQ.tE (h : RQ G w tr sh δ σ σm x) : σ.2.2 0 x 3 = some tr := h.2.2.2.1.2.2.2.2.1
theorem RQ.ne (h : RQ G w tr sh δ σ σm x) : tr ≠ w := h.2.2.2.1.2.2.2.1
theorem RQ.gw (h : RQ G w tr sh δ σ σm x) : gI δ w := h.2.2.2.1.2.1
theorem RQ.gt (h : RQ G w tr sh δ σ σm x) : gI δ tr := h.2.2.2.1.2.2.1
theorem RQ.m0 (h : RQ G w tr sh δ σ σm x) : (0, x) ∈ δ.1 := h.2.2.2.1.1.1
theorem RQ.re (h : RQ G w tr sh δ σ σm x) : ∀ i, 1 ≤ i → i ≤ 7 → σ.1 2 x i = σm.2.1 6 i := h.2.2.2.1.2.2.2.2.2.2.1
theorem RQ.fa (h : RQ G w tr sh δ σ σm x) : σ.1 0 x 6 = σm.1 5 := h.2.2.2.1.2.2.2.2.2.2.2.1
theorem RQ.ran (h : RQ G w tr sh δ σ σm x) : ∃ n, n ≤ 20 ∧ σ.1 3 x 1 = nI n ∧ σm.1 36 = nI n := h.2.2.2.1.2.2.2.2.2.2.2.2.1
theorem RQ.bod (h : RQ G w tr sh δ σ σm x) : ∀ i, i < 20 → σ.1 4 x i = σm.2.1 35 i := h.2.2.2.1.2.2.2.2.2.2.2.2.2.1
theorem RQ.wd (h : RQ G w tr sh δ σ σm x) : ∀ i, i < 32 → σm.2.1 20 i = wordsM i := h.2.2.2.1.2.2.2.2.2.2.2.2.2.2.1
end RQP
def su (f : Nat → Int32) : Nat → Int32
  | 0 => 0
  | k + 1 => su f k + f k
theorem su_s (f : Nat → Int32) (k : Nat) : su f (k + 1) = su f k + f k := rfl
theorem su_congr {f g : Nat → Int32} : ∀ {n : Nat}, (∀ i, i < n → f i = g i) → su f n = su g n
  | 0, _ => rfl
  | n + 1, h => by rw [su_s, su_s, su_congr (fun i hi => h i (by omega)), h n (by omega)]
theorem su_0 {f : Nat → Int32} : ∀ {n : Nat}, (∀ i, i < n → f i = 0) → su f n = 0
  | 0, _ => rfl
  | n + 1, h => by rw [su_s, su_0 (fun i hi => h i (by omega)), h n (by omega)]; rfl
theorem su_add (f g : Nat → Int32) : ∀ n : Nat, su (fun i => f i + g i) n = su f n + su g n
  | 0 => rfl
  | n + 1 => by
    rw [su_s, su_s, su_s, su_add f g n]
    rw [Int32.add_assoc, Int32.add_assoc]
    congr 1
    rw [← Int32.add_assoc, ← Int32.add_assoc, Int32.add_comm (su g n) (f n)]
theorem su_swap (a : Nat → Nat → Int32) (m : Nat) : ∀ n : Nat, su (fun i => su (fun j => a i j) m) n = su (fun j => su (fun i => a i j) n) m
  | 0 => (su_0 (fun _ _ => rfl)).symm
  | n + 1 => by
    rw [su_s, su_swap a m n]
    exact (su_add (fun j => su (fun i => a i j) n) (fun j => a n j) m).symm
theorem su_tail {f : Nat → Int32} {n : Nat} : ∀ {m : Nat}, n ≤ m → (∀ i, n ≤ i → i < m → f i = 0) → su f m = su f n
  | 0, h, _ => by obtain rfl : n = 0 := by omega
                  rfl
  | m + 1, h, h2 => by
    by_cases e : n = m + 1
    · rw [e]
    · rw [su_s, su_tail (n := n) (by omega) (fun i a b => h2 i a (by omega)), h2 m (by omega) (by omega), Int32.add_zero]
theorem pc_su (x : Int32) : pc x = su (fun b => bI (bt x b)) 8 := by
  have : ∀ n, n ≤ 8 → (List.range n).foldl (fun n b => n + ((x >>> (nI b &&& 31)) &&& 1)) 0 = su (fun b => bI (bt x b)) n := by
    intro n
    induction n with
    | zero => intro _; rfl
    | succ n ih =>
      intro h
      rw [List.range_succ, List.foldl_append, ih (by omega), su_s]
      show _ + ((x >>> (nI n &&& 31)) &&& 1) = _
      rw [bt_1 x (by omega)]
  exact this 8 (by decide)
theorem pc_bm {p : Nat → Bool} {n : Nat} (hn : n ≤ 8) : pc (bm p n) = su (fun b => bI (p b)) n := by
  rw [pc_su, su_tail hn (fun i h1 h2 => ?_)]
  · refine su_congr (fun i hi => ?_)
    rw [bm_bt _ (by omega) (by omega)]
    simp [hi]
  · rw [bm_bt _ (by omega) (by omega)]
    have : ¬ i < n := by omega
    simp [this, bI]
theorem bm_andn {p q : Nat → Bool} {n : Nat} (hn : n ≤ 8) : bm p n &&& (bm q n ^^^ (-1)) = bm (fun t => p t && !q t) n := b_ext (fun i hi => by
  rw [b_and, b_xor, b_m1 i hi, bm_bt _ (by omega) hi, bm_bt _ (by omega) hi, bm_bt _ (by omega) hi]
  by_cases h : i < n
  · simp [h]
  · simp [h])
theorem fst_cut {p : Nat → Bool} {n : Nat} (hn : n ≤ 8) : fst (bt (bm p n)) 8 0 = fst p n 0 := by
  have hb : ∀ i, i < 8 → bt (bm p n) i = (decide (i < n) && p i) := fun i hi => bm_bt p (by omega) (by omega)
  rcases @fst_ge p n 0 with e | ⟨t, -, ht, qt, hm, e⟩
  · rw [e]
    refine fst_none (fun k _ hk => ?_)
    rw [hb k (by omega)]
    by_cases h : k < n
    · rw [fst_m1 hn e k h]; simp
    · simp [h]
  · rw [e]
    refine fst_some (t := t) ?_ (Nat.zero_le _) (by omega) (fun k _ hk => ?_)
    · rw [hb t (by omega), qt]
      have : t < n := by omega
      simp [this]
    · rw [hb k (by omega), hm k (Nat.zero_le _) hk]; simp
theorem bm_z {p : Nat → Bool} {n : Nat} (hn : n ≤ 8) : bm p n = 0 ↔ fst p n 0 = -1 := by
  constructor
  · intro h
    refine fst_none (fun k _ hk => ?_)
    have := bm_bt p (k := n) (by omega) (i := k) (by omega)
    rw [h, b_0] at this
    have hk : k < n := by omega
    simpa [hk] using this.symm
  · intro h
    refine b_ext (fun i hi => ?_)
    rw [bm_bt p (by omega) hi, b_0]
    by_cases hk : i < n
    · rw [fst_m1 hn h i hk]; simp
    · simp [hk]
def nz62 (x0 x1 : Int32) : Int32 := if x0 ≤ 4 then x1 + ((x0.toUInt32 >>> ((1 : Int32).toUInt32 &&& Int32.toUInt32 31)).toInt32) else (x1 + 2) + ((((x0.toUInt32 >>> ((2 : Int32).toUInt32 &&& Int32.toUInt32 31)).toInt32).toUInt32 >>> ((1 : Int32).toUInt32 &&& Int32.toUInt32 31)).toInt32)
def nz49 (x0 x1 : Int32) : Int32 := if x0 ≤ 16 then nz62 x0 x1 else nz62 ((x0.toUInt32 >>> ((4 : Int32).toUInt32 &&& Int32.toUInt32 31)).toInt32) (x1 + 4)
def nz34 (x0 x1 : Int32) : Int32 := if x0 ≤ 256 then nz49 x0 x1 else nz49 ((x0.toUInt32 >>> ((8 : Int32).toUInt32 &&& Int32.toUInt32 31)).toInt32) (x1 + 8)
def nz (x0 : Int32) : Int32 := if 0 < ((x0 ^^^ (-1)) &&& (x0 - 1)) then (if ((x0 ^^^ (-1)) &&& (x0 - 1)) ≤ 65536 then nz34 ((x0 ^^^ (-1)) &&& (x0 - 1)) 1 else nz34 ((((x0 ^^^ (-1)) &&& (x0 - 1)).toUInt32 >>> ((16 : Int32).toUInt32 &&& Int32.toUInt32 31)).toInt32) (1 + 16)) else (((x0 ^^^ (-1)) &&& (x0 - 1)) &&& 32)
section PA
variable {G : Gd} {δ : XSh} {σ : XSt} {σm : MSt} {K : Int32 → Prop} {i j g : Nat}
theorem xp_62 {x0 x1 : Int32} (hK : K (nz62 x0 x1)) : xw_Jn_numberOfTrailingZeros_62 δ σ K x0 x1 := by
  unfold xw_Jn_numberOfTrailingZeros_62
  unfold nz62 at hK
  exact ⟨fun c => by rwa [if_pos c] at hK, fun c => by rintro r2 rfl; rwa [if_neg c] at hK⟩
theorem xp_49 {x0 x1 : Int32} (hK : K (nz49 x0 x1)) : xw_Jn_numberOfTrailingZeros_49 δ σ K x0 x1 := by
  unfold xw_Jn_numberOfTrailingZeros_49
  unfold nz49 at hK
  exact ⟨fun c => by rw [if_pos c] at hK; exact xp_62 hK, fun c => by rintro r2 rfl; rw [if_neg c] at hK; exact xp_62 hK⟩
theorem xp_34 {x0 x1 : Int32} (hK : K (nz34 x0 x1)) : xw_Jn_numberOfTrailingZeros_34 δ σ K x0 x1 := by
  unfold xw_Jn_numberOfTrailingZeros_34
  unfold nz34 at hK
  exact ⟨fun c => by rw [if_pos c] at hK; exact xp_49 hK, fun c => by rintro r2 rfl; rw [if_neg c] at hK; exact xp_49 hK⟩
theorem nz_256 : ∀ k, k < 256 → 0 < k → nz (nI k) = fst (bt (nI k)) 8 0 := by decide +kernel
theorem xp_ntz {x : Int32} (h : sm x) (h0 : ¬ x = 0) (hK : K (fst (bt x) 8 0)) : xw_Jn_numberOfTrailingZeros δ σ K x := by
  obtain ⟨k, hk, rfl⟩ := sm_nI h
  have hk0 : 0 < k := by
    rcases Nat.eq_zero_or_pos k with z | z
    · subst z; exact absurd nI_0 h0
    · exact z
  rw [← nz_256 k hk hk0] at hK
  unfold xw_Jn_numberOfTrailingZeros
  unfold nz at hK
  refine ⟨fun c => ⟨fun d => ?_, fun d => ?_⟩, fun c => ?_⟩
  · rw [if_pos c, if_pos d] at hK; exact xp_34 hK
  · rintro r3 rfl
    rw [if_pos c, if_neg d] at hK; exact xp_34 hK
  · rw [if_neg c] at hK; exact hK
theorem xp_shutters (hR : RC G δ σ g) (hn : gN G ≤ 8) (hK : K (su (fun j => pc (bm (fun a => gS G a j) (gN G))) (gN G))) : xw_G_shutters δ σ K g := by
  unfold xw_G_shutters
  refine lpU (fun n s i => xw_G_shutters_4 δ σ K g n s i) (fun i s => s = su (fun j => pc (bm (fun a => gS G a j) (gN G))) i) (gN G) 0 rfl ?_ ?_
  · intro n s hs
    show xw_G_shutters_4_b _ _ _ _ _ _ _
    unfold xw_G_shutters_4_b
    rw [hR.1]
    exact br_t (nI_le (Nat.le_refl _) (by omega)) (by rw [hs]; exact hK)
  · intro n i s hi hs L
    subst hs
    have h8 : i < 8 := by omega
    show xw_G_shutters_4_b _ _ _ _ _ _ _
    unfold xw_G_shutters_4_b
    rw [hR.1, pcl h8, (hR.2.2.2.2.2.2 i hi).2.1]
    exact br_f (nI_ge hi (by omega)) ⟨pin h8, xp_bitCount (sm_bm _ hn) (L _ rfl)⟩
theorem mp_houses (hU : gU G) (hR : RM G σm) (hK : K (hsM G)) : mw_houses σm K := by
  have hn : gN G ≤ 8 := hU.1
  unfold mw_houses
  refine lpU (fun n s i => mw_houses_4 σm K n s i) (fun i s => s = bm (hs G) i) (gN G) 0 rfl ?_ ?_
  · intro n s hs
    show mw_houses_4_b _ _ _ _ _
    unfold mw_houses_4_b
    rw [hR.1]
    exact br_t (nI_le (Nat.le_refl _) (by omega)) (by rw [hs]; exact hK)
  · intro n i s hi hs L
    subst hs
    show mw_houses_4_b _ _ _ _ _
    unfold mw_houses_4_b
    rw [hR.1]
    exact br_f (nI_ge hi (by omega)) (mp_isHouse hR hn hi (hU.2.2.1 i hi).1 (bI_if (fun c => L _ (bm_f c)) (fun c => L _ (bm_t c))))
theorem mp_shutMany (hR : RM G σm) (hn : gN G ≤ 8) (hK : K (su (fun i => pc (bm (gS G i) (gN G))) (gN G))) : mw_shutMany σm K := by
  unfold mw_shutMany
  refine lpU (fun n s i => mw_shutMany_4 σm K n s i) (fun i s => s = su (fun i => pc (bm (gS G i) (gN G))) i) (gN G) 0 rfl ?_ ?_
  · intro n s hs
    show mw_shutMany_4_b _ _ _ _ _
    unfold mw_shutMany_4_b
    rw [hR.1]
    exact br_t (nI_le (Nat.le_refl _) (by omega)) (by rw [hs]; exact hK)
  · intro n i s hi hs L
    subst hs
    have h8 : i < 8 := by omega
    show mw_shutMany_4_b _ _ _ _ _
    unfold mw_shutMany_4_b
    obtain ⟨-, -, -, -, -, -, k13⟩ := hR.2.2.2.2.2 i hi
    rw [hR.1, pcl h8, k13]
    exact br_f (nI_ge hi (by omega)) ⟨pin h8, mp_many (sm_bm _ hn) (L _ rfl)⟩
/-- rows and columns of the shut sights -/
theorem shut_rc (G : Gd) (hn : gN G ≤ 8) : su (fun j => pc (bm (fun a => gS G a j) (gN G))) (gN G) = su (fun i => pc (bm (gS G i) (gN G))) (gN G) := by
  have e1 : su (fun j => pc (bm (fun a => gS G a j) (gN G))) (gN G) = su (fun j => su (fun i => bI (gS G i j)) (gN G)) (gN G) := su_congr (fun j _ => pc_bm hn)
  have e2 : su (fun i => pc (bm (gS G i) (gN G))) (gN G) = su (fun i => su (fun j => bI (gS G i j)) (gN G)) (gN G) := su_congr (fun j _ => pc_bm hn)
  rw [e1, e2]
  exact (su_swap (fun i j => bI (gS G i j)) (gN G) (gN G)).symm
theorem sh_bI (b : Bool) {k : Nat} (hk : k < 8) : bI b <<< (nI k &&& 31) = if b = true then (1 : Int32) <<< (nI k &&& 31) else 0 := by
  cases b
  · have : ∀ k, k < 8 → (0 : Int32) <<< (nI k &&& 31) = 0 := by decide
    exact this k hk
  · rfl
theorem mp_drawnOnes (hR : RM G σm) (hn : gN G ≤ 8) (hK : K (bm (gC G) (gN G))) : mw_drawnOnes σm K := by
  unfold mw_drawnOnes
  refine lpU (fun n s i => mw_drawnOnes_4 σm K n s i) (fun i s => s = bm (gC G) i) (gN G) 0 rfl ?_ ?_
  · intro n s hs
    show mw_drawnOnes_4_b _ _ _ _ _
    unfold mw_drawnOnes_4_b
    rw [hR.1]
    exact br_t (nI_le (Nat.le_refl _) (by omega)) (by rw [hs]; exact hK)
  · intro n i s hi hs L
    subst hs
    have h8 : i < 8 := by omega
    show mw_drawnOnes_4_b _ _ _ _ _
    unfold mw_drawnOnes_4_b
    obtain ⟨-, -, -, -, -, k12, -⟩ := hR.2.2.2.2.2 i hi
    rw [hR.1, pcl h8, k12, sh_bI _ h8]
    exact br_f (nI_ge hi (by omega)) ⟨pin h8, L _ rfl⟩
theorem mp_firstOf {x : Int32} (hK : K (fst (bt x) 8 0)) : mw_firstOf σm K x := by
  unfold mw_firstOf
  refine lpU (fun n (_ : Unit) i => mw_firstOf_2 σm K n x i) (fun i _ => K (fst (bt x) (8 - i) i)) 8 () hK ?_ ?_
  · intro n s hs
    show mw_firstOf_2_b σm K (mw_firstOf_2 σm K n) x (nI 8)
    unfold mw_firstOf_2_b
    exact br_t (nI_le (Nat.le_refl 8) (by decide)) hs
  · intro n i s hi hs L
    show mw_firstOf_2_b σm K (mw_firstOf_2 σm K n) x (nI i)
    unfold mw_firstOf_2_b
    rw [bt_1 x (by omega)]
    have e : 8 - i = (8 - (i + 1)) + 1 := by omega
    rw [e] at hs
    refine br_f (nI_ge (b := 8) hi (by decide)) ⟨fun c => L () ?_, fun c => ?_⟩
    · rw [fst_f (by cases h : bt x i with | false => rfl | true => exact absurd (by rw [h]; rfl) c)] at hs
      exact hs
    · rw [fst_t (by cases h : bt x i with | true => rfl | false => rw [h] at c; exact absurd c (by decide))] at hs
      exact hs
theorem mp_first (hU : gU G) (hR : RM G σm) (hK : K (fst (fun t => hs G t && !rtB G t) (gN G) 0)) : mw_first σm K := by
  have hn : gN G ≤ 8 := hU.1
  unfold mw_first
  refine mp_allRight hU hR ?_
  refine lpU (fun n (_ : Unit) i => mw_first_7 σm K n (rt G) i) (fun i _ => K (fst (fun t => hs G t && !rtB G t) (gN G - i) i)) (gN G) () hK ?_ ?_
  · intro n s hs
    show mw_first_7_b σm K (mw_first_7 σm K n) (rt G) (nI (gN G))
    unfold mw_first_7_b
    rw [hR.1]
    refine br_t (nI_le (Nat.le_refl _) (by omega)) ?_
    rw [Nat.sub_self] at hs
    exact hs
  · intro n i s hi hs L
    show mw_first_7_b σm K (mw_first_7 σm K n) (rt G) (nI i)
    unfold mw_first_7_b
    rw [hR.1]
    have e : gN G - i = (gN G - (i + 1)) + 1 := by omega
    rw [e] at hs
    have er : (rt G >>> (nI i &&& 31)) &&& 1 = bI (rtB G i) := e_sh hn hi
    rw [er]
    refine br_f (nI_ge hi (by omega)) (mp_isHouse hR hn hi (hU.2.2.1 i hi).1 (bI_if (fun c => L () ?_) (fun c => bI_fi (fun d => ?_) (fun d => L () ?_))))
    · rw [fst_f (by simp [c])] at hs; exact hs
    · rw [fst_t (by simp [c, d])] at hs; exact hs
    · rw [fst_f (by simp [d])] at hs; exact hs
end PA
theorem pl_fault : Pl_fault RL := by
  intro δ σ σm x h
  obtain ⟨G, w, tr, sh, h⟩ := h
  exact ⟨h.fa, h.rl⟩
theorem pl_right : Pl_right RL := by
  intro δ σ σm x h
  obtain ⟨G, w, tr, sh, h⟩ := h
  exact ⟨w, h.wE, xp_right h.u h.rc (mp_allRight h.u h.rm ⟨rfl, h.rl⟩)⟩
theorem pl_first : Pl_first RL := by
  intro δ σ σm x h
  obtain ⟨G, w, tr, sh, h⟩ := h
  have hn := h.n
  refine ⟨w, h.wE, xp_houses h.rc h.u (xp_right h.u h.rc ?_)⟩
  have em : hsM G &&& (rt G ^^^ (-1)) = bm (fun t => hs G t && !rtB G t) (gN G) := bm_andn hn
  rw [em]
  refine ⟨fun c => xp_ntz (sm_bm _ hn) c (mp_first h.u h.rm ⟨fst_cut hn, h.rl⟩), fun c => mp_first h.u h.rm ⟨((bm_z hn).mp c).symm, h.rl⟩⟩
theorem pl_trace : Pl_trace RL := by
  intro δ σ σm x h x1
  obtain ⟨G, w, tr, sh, h⟩ := h
  obtain ⟨n, hn, e1, e2⟩ := h.ran
  unfold xw_S_trace mw_trace
  rintro r1 rfl
  have e3 : (if 20 < σ.1 3 x 1 then 20 else σ.1 3 x 1) = nI n := by
    rw [e1, if_neg]
    have : ∀ n, n ≤ 20 → ¬ (20 : Int32) < nI n := by decide
    exact this n hn
  rw [e3, e2]
  have e4 : ∀ y : Int32, (nI n - 1 < y) = (nI n ≤ y) := by
    intro y
    rw [eq_iff_iff, Int32.lt_iff_toInt_lt, Int32.le_iff_toInt_le, nI_toInt (by omega)]
    have : ∀ n, n ≤ 20 → (nI n - 1).toInt = (n : Int) - 1 := by decide
    rw [this n hn]
    omega
  have big : ∀ y : Int32, nI n ≤ y ∨ y < 0 → ((y < 0) → ((-1 : Int32) = -1 ∧ RL δ σ σm x)) ∧ ((¬ (y < 0)) → (((20 ≤ y) → ((-1 : Int32) = -1 ∧ RL δ σ σm x)) ∧ ((¬ (20 ≤ y)) → (((nI n ≤ y) → ((-1 : Int32) = -1 ∧ RL δ σ σm x)) ∧ ((¬ (nI n ≤ y)) → (vp_in y (lenM 35) ∧ ((-1 : Int32) = σm.2.1 35 y.toNatClampNeg ∧ RL δ σ σm x))))))) := by
    intro y hy
    refine ⟨fun _ => ⟨rfl, h.rl⟩, fun c => ⟨fun _ => ⟨rfl, h.rl⟩, fun _ => ⟨fun _ => ⟨rfl, h.rl⟩, fun d => ?_⟩⟩⟩
    rcases hy with q | q
    · exact absurd q d
    · exact absurd q c
  refine xp_in (y := 0) (fun c => ⟨fun _ => big x1 ?_, fun z => absurd rfl z⟩) (fun c d => ⟨fun z => absurd z (by decide), fun _ => ?_⟩)
  · rw [e4] at c
    exact c.symm
  · rw [e4] at d
    rcases pk_ix x1 (n := n) (by omega) with q | q | ⟨i, hi, e⟩
    · exact absurd q c
    · exact absurd q d
    · subst e
      have hv : vp_in (nI i) 20 := vp_in_nI (by omega) (by decide)
      refine ⟨hv, br_f c (br_f ?_ (br_f d ⟨hv, ?_, h.rl⟩))⟩
      · have : ∀ i, i < 20 → ¬ (20 : Int32) ≤ nI i := by decide
        exact this i (by omega)
      · rw [nI_clamp (by omega)]
        exact h.bod i (by omega)
