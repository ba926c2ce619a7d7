/-! PURE BASE: sets of things as bits, the ground in plain terms -/
theorem lpU {S : Type} (W : Nat → S → Int32 → Prop) (I : Nat → S → Prop) (e : Nat) (s0 : S) (h0 : I 0 s0) (hx : ∀ n s, I e s → W (n + 1) s (nI e)) (hs : ∀ n i s, i < e → I i s → (∀ s', I (i + 1) s' → W n s' (nI i + 1)) → W (n + 1) s (nI i)) : ∃ n, W n s0 0 := by
  have key : ∀ m i s, i + m = e → I i s → W (m + 1) s (nI i) := by
    intro m
    induction m with
    | zero => intro i s h hI; obtain rfl : i = e := by omega
              exact hx 0 s hI
    | succ m ih => intro i s h hI
                   exact hs (m + 1) i s (by omega) hI (fun s' hI' => by rw [nI_1]; exact ih (i + 1) s' (by omega) hI')
  exact ⟨e + 1, by have := key e 0 s0 (by omega) h0; rw [nI_0] at this; exact this⟩
/-- a loop from i0 on -/
theorem lpF {S : Type} (W : Nat → S → Int32 → Prop) (I : Nat → S → Prop) (e i0 : Nat) (s0 : S) (hi0 : i0 ≤ e) (h0 : I i0 s0) (hx : ∀ n s, I e s → W (n + 1) s (nI e)) (hs : ∀ n i s, i0 ≤ i → i < e → I i s → (∀ s', I (i + 1) s' → W n s' (nI i + 1)) → W (n + 1) s (nI i)) : ∃ n, W n s0 (nI i0) := by
  have key : ∀ m i s, i0 ≤ i → i + m = e → I i s → W (m + 1) s (nI i) := by
    intro m
    induction m with
    | zero => intro i s _ h hI; obtain rfl : i = e := by omega
              exact hx 0 s hI
    | succ m ih => intro i s h1 h hI
                   exact hs (m + 1) i s h1 (by omega) hI (fun s' hI' => by rw [nI_1]; exact ih (i + 1) s' (by omega) (by omega) hI')
  exact ⟨e - i0 + 1, key (e - i0) i0 s0 (by omega) (by omega) h0⟩
theorem pin {i : Nat} (h : i < 8) : vp_in (nI i) 8 := vp_in_nI h (by decide)
theorem pcl {i : Nat} (h : i < 8) : (nI i).toNatClampNeg = i := nI_clamp (by omega)
def bI (b : Bool) : Int32 := if b then 1 else 0
theorem bI_t : bI true = 1 := rfl
theorem bI_f : bI false = 0 := rfl
theorem bI_01 (b : Bool) : bI b = 0 ∨ bI b = 1 := by cases b <;> decide
theorem bI_if {b : Bool} {A B : Prop} (h0 : b = false → A) (h1 : b = true → B) : (bI b = 0 → A) ∧ (¬ bI b = 0 → B) := by
  cases b
  · exact ⟨fun _ => h0 rfl, fun h => absurd rfl h⟩
  · exact ⟨fun h => absurd h (by decide), fun _ => h1 rfl⟩
theorem bI_fi {b : Bool} {A B : Prop} (h0 : b = false → A) (h1 : b = true → B) : (¬ bI b = 0 → B) ∧ (bI b = 0 → A) := (bI_if h0 h1).symm
/-! sets as bits -/
def bm (p : Nat → Bool) : Nat → Int32
  | 0 => 0
  | k + 1 => bm p k ||| (if p k = true then (1 : Int32) <<< (nI k &&& 31) else 0)
theorem bm_t {p : Nat → Bool} {k : Nat} (h : p k = true) : bm p k ||| ((1 : Int32) <<< (nI k &&& 31)) = bm p (k + 1) := by
  show _ = _ ||| _
  rw [if_pos h]
theorem bm_o {p : Nat → Bool} {k : Nat} (h : p k = false) : bm p k ||| 0 = bm p (k + 1) := by
  show _ = _ ||| _
  rw [h, if_neg (by decide)]
theorem or_0 (x : Int32) : x ||| 0 = x := Int32.or_zero
theorem bm_f {p : Nat → Bool} {k : Nat} (h : p k = false) : bm p k = bm p (k + 1) := by
  rw [← bm_o h, or_0]
theorem bt_one : ∀ i, i < 32 → bt 1 i = decide (i = 0) := by decide +kernel
theorem bt_sh {k i : Nat} (hk : k < 32) (hi : i < 32) : bt ((1 : Int32) <<< (nI k &&& 31)) i = decide (i = k) := by
  rw [b_shl k hk 1 hi, bt_one _ (by omega)]
  by_cases h : i = k
  · simp [h]
  · by_cases h2 : k ≤ i
    · have : ¬ i - k = 0 := by omega
      simp [h, this]
    · simp [h, h2]
theorem bm_bt (p : Nat → Bool) : ∀ {k : Nat}, k ≤ 32 → ∀ {i : Nat}, i < 32 → bt (bm p k) i = (decide (i < k) && p i)
  | 0, _, i, _ => by show bt 0 i = _; rw [b_0]; simp
  | k + 1, hk, i, hi => by
    show bt (bm p k ||| _) i = _
    rw [b_or, bm_bt p (by omega) hi]
    by_cases hp : p k = true
    · rw [if_pos hp, bt_sh (by omega) hi]
      by_cases h : i = k
      · subst h; simp [hp]
      · by_cases h1 : i < k
        · have : i < k + 1 := by omega
          simp [h, h1, this]
        · have : ¬ i < k + 1 := by omega
          simp [h, h1, this]
    · rw [if_neg hp, b_0]
      by_cases h : i = k
      · subst h; simp [hp]
      · by_cases h1 : i < k
        · have : i < k + 1 := by omega
          simp [h1, this]
        · have : ¬ i < k + 1 := by omega
          simp [h1, this]
theorem bm_congr {p q : Nat → Bool} {n : Nat} (h : ∀ i, i < n → p i = q i) : bm p n = bm q n := by
  induction n with
  | zero => rfl
  | succ n ih => show bm p n ||| _ = bm q n ||| _
                 rw [ih (fun i hi => h i (by omega)), h n (by omega)]
/-- one bit -/
theorem bt_1 (x : Int32) {i : Nat} (hi : i < 32) : ((x >>> (nI i &&& 31)) &&& 1) = bI (bt x i) := by
  apply b_ext
  intro j hj
  rw [b_and, b_sshr i hi x hj, bt_one j hj]
  by_cases h : j = 0
  · subst h
    have : i + 0 < 32 := by omega
    rw [if_pos this]
    cases bt x i <;> rfl
  · have e : decide (j = 0) = false := by simp [h]
    rw [e, Bool.and_false]
    cases bt x i
    · exact (b_0 j).symm
    · show false = bt 1 j
      rw [bt_one j hj, e]
theorem bt_clr (x : Int32) {k i : Nat} (hk : k < 32) (hi : i < 32) : bt (x &&& (((1 : Int32) <<< (nI k &&& 31)) ^^^ (-1))) i = (bt x i && !decide (i = k)) := by
  rw [b_and, b_xor, bt_sh hk hi, b_m1 i hi]
  simp
/-- at most eight bits -/
def sm (x : Int32) : Prop := x &&& 255 = x
theorem sm_of {x : Int32} (h : ∀ i, 8 ≤ i → i < 32 → bt x i = false) : sm x := b_ext (fun i hi => by
  rw [b_and, b_255]
  by_cases h8 : i < 8
  · simp [h8]
  · rw [h i (by omega) hi]; simp)
theorem sm_bt {x : Int32} (h : sm x) {i : Nat} (h8 : 8 ≤ i) : bt x i = false := by
  have : bt (x &&& 255) i = bt x i := by rw [h]
  rw [← this, b_and, b_255]
  simp; omega
theorem sm_bm (p : Nat → Bool) {n : Nat} (hn : n ≤ 8) : sm (bm p n) := sm_of (fun i h8 hi => by
  rw [bm_bt p (by omega) hi]
  have : ¬ i < n := by omega
  simp [this])
theorem sm_and {x : Int32} (h : sm x) (y : Int32) : sm (x &&& y) := sm_of (fun i h8 hi => by rw [b_and, sm_bt h h8]; rfl)
theorem sm_and' (x : Int32) {y : Int32} (h : sm y) : sm (x &&& y) := sm_of (fun i h8 hi => by rw [b_and, sm_bt h h8]; simp)
theorem sm_or {x y : Int32} (h : sm x) (h' : sm y) : sm (x ||| y) := sm_of (fun i h8 hi => by rw [b_or, sm_bt h h8, sm_bt h' h8]; rfl)
theorem sm_0 : sm 0 := by unfold sm; decide
theorem sm_nI {x : Int32} (h : sm x) : ∃ k, k < 256 ∧ x = nI k := by
  have := pk_and x (m := 255) 8 (by decide)
  refine ⟨x.toBitVec.toNat % 2 ^ 8, Nat.mod_lt _ (by decide), ?_⟩
  rw [← this]; exact h.symm
theorem bm_self {x : Int32} (h : sm x) : bm (bt x) 8 = x := b_ext (fun i hi => by
  rw [bm_bt _ (by decide) hi]
  by_cases h8 : i < 8
  · simp [h8]
  · rw [sm_bt h (by omega)]; simp)
/-- how many bits of the first eight -/
def pc (x : Int32) : Int32 := (List.range 8).foldl (fun n b => n + ((x >>> (nI b &&& 31)) &&& 1)) 0
/-- the first one of n that is so; none -/
def fst (p : Nat → Bool) : Nat → Nat → Int32
  | 0, _ => -1
  | m + 1, i => if p i = true then nI i else fst p m (i + 1)
theorem fst_t {p : Nat → Bool} {m i : Nat} (h : p i = true) : fst p (m + 1) i = nI i := by
  show (if _ then _ else _) = _
  rw [if_pos h]
theorem fst_f {p : Nat → Bool} {m i : Nat} (h : p i = false) : fst p (m + 1) i = fst p m (i + 1) := by
  show (if _ then _ else _) = _
  rw [if_neg (by rw [h]; decide)]
theorem fst_ge {p : Nat → Bool} : ∀ {m i : Nat}, fst p m i = -1 ∨ ∃ t, i ≤ t ∧ t < i + m ∧ p t = true ∧ (∀ k, i ≤ k → k < t → p k = false) ∧ fst p m i = nI t
  | 0, i => Or.inl rfl
  | m + 1, i => by
    by_cases h : p i = true
    · exact Or.inr ⟨i, Nat.le_refl _, by omega, h, fun k h1 h2 => by omega, fst_t h⟩
    · have h' : p i = false := by simpa using h
      rw [fst_f h']
      rcases @fst_ge p m (i + 1) with e | ⟨t, h1, h2, h3, h4, h5⟩
      · exact Or.inl e
      · refine Or.inr ⟨t, by omega, by omega, h3, fun k k1 k2 => ?_, h5⟩
        rcases Nat.lt_or_ge i k with q | q
        · exact h4 k q k2
        · obtain rfl : k = i := by omega
          exact h'
theorem fst_none {p : Nat → Bool} : ∀ {m i : Nat}, (∀ k, i ≤ k → k < i + m → p k = false) → fst p m i = -1
  | 0, _, _ => rfl
  | m + 1, i, h => by
    rw [fst_f (h i (Nat.le_refl _) (by omega))]
    exact fst_none (fun k h1 h2 => h k (by omega) (by omega))
theorem fst_some {p : Nat → Bool} {t : Nat} (ht : p t = true) : ∀ {m i : Nat}, i ≤ t → t < i + m → (∀ k, i ≤ k → k < t → p k = false) → fst p m i = nI t
  | 0, i, h1, h2, _ => by omega
  | m + 1, i, h1, h2, h3 => by
    by_cases h : i = t
    · subst h; exact fst_t ht
    · rw [fst_f (h3 i (Nat.le_refl _) (by omega))]
      exact fst_some ht (by omega) (by omega) (fun k k1 k2 => h3 k (by omega) k2)
theorem fst_congr {p q : Nat → Bool} : ∀ {m i : Nat}, (∀ k, i ≤ k → k < i + m → p k = q k) → fst p m i = fst q m i
  | 0, _, _ => rfl
  | m + 1, i, h => by
    show (if _ then _ else _) = (if _ then _ else _)
    rw [h i (Nat.le_refl _) (by omega), fst_congr (fun k h1 h2 => h k (by omega) (by omega))]
theorem nI_m1 {t : Nat} (h : t < 8) : ¬ nI t = -1 := by
  have : ∀ t, t < 8 → ¬ nI t = -1 := by decide
  exact this t h
theorem pc_8 : ∀ k, k < 256 → ∀ K : Int32 → Prop, True → True := fun _ _ _ h => h
/-! THE GROUND IN PLAIN TERMS: how many; 0 summer 1 far 2 fines 3 seed; kinds; 1 x 2 y 3 by 4 height; drawn; shut -/
abbrev Gd : Type := Nat × (Nat → Int32) × (Nat → Nat) × (Nat → Nat → Int32) × (Nat → Bool) × (Nat → Nat → Bool)
abbrev gN (G : Gd) : Nat := G.1
abbrev gF (G : Gd) : Nat → Int32 := G.2.1
abbrev gK (G : Gd) : Nat → Nat := G.2.2.1
abbrev gV (G : Gd) : Nat → Nat → Int32 := G.2.2.2.1
abbrev gC (G : Gd) : Nat → Bool := G.2.2.2.2.1
abbrev gS (G : Gd) : Nat → Nat → Bool := G.2.2.2.2.2
def hs (G : Gd) (i : Nat) : Bool := !decide (gK G i = 0) && !decide (gK G i = 2) && !decide (gK G i = 6)
def tl (G : Gd) (i : Nat) : Int32 := if gK G i = 6 ∨ (gK G i = 2 ∧ gF G 0 = 1) then gV G 4 i + gV G 3 i else if gK G i = 2 then 0 else gV G 4 i
def ey (G : Gd) (i : Nat) : Int32 := if gK G i = 3 then gV G 4 i + gV G 3 i else gV G 4 i
def ab (v : Int32) : Int32 := if 0 ≤ v then v else 0 - v
def mx (a b : Int32) : Int32 := if a < b then b else a
def ds (G : Gd) (i j : Nat) : Int32 := mx (ab (gV G 1 i - gV G 1 j)) (ab (gV G 2 i - gV G 2 j))
def gcI : Nat → Int32 → Int32 → Int32
  | 0, a, _ => a
  | n + 1, a, b => if b = 0 then a else gcI n b (a - a / b * b)
theorem gcI_s (n : Nat) (a b : Int32) : gcI (n + 1) a b = if b = 0 then a else gcI n b (a - a / b * b) := rfl
/-- in how many parts a sight falls -/
def pt (G : Gd) (i j : Nat) : Int32 := gcI 16 (ab (gV G 1 j - gV G 1 i)) (ab (gV G 2 j - gV G 2 i))
def ptN (G : Gd) (i j : Nat) : Nat := (pt G i j).toNatClampNeg
/-- whether t stands at the k-th place of the sight from i to j -/
def stn (G : Gd) (i j t k : Nat) : Bool := decide (gV G 1 t = gV G 1 i + (gV G 1 j - gV G 1 i) / pt G i j * nI k) && decide (gV G 2 t = gV G 2 i + (gV G 2 j - gV G 2 i) / pt G i j * nI k)
/-- whether it is too tall there -/
def too (G : Gd) (i j t k : Nat) : Bool := decide (ey G i * (pt G i j - nI k) + gV G 4 j * nI k < tl G t * pt G i j)
/-- in the way at one of the places 1 .. k - 1 -/
def blk (G : Gd) (i j t : Nat) : Nat → Bool
  | 0 => false
  | k + 1 => blk G i j t k || (!decide (k = 0) && stn G i j t k && too G i j t k)
def wy (G : Gd) (i j : Nat) : Int32 := fst (fun t => blk G i j t (ptN G i j)) (gN G) 0
def lk (G : Gd) (i j : Nat) : Bool := !decide (gK G i = 5) && !decide (gF G 1 < ds G i j) && decide (wy G i j = -1)
def sn (G : Gd) (i j : Nat) : Bool := !gC G i && !gS G i j && lk G i j
def inB (G : Gd) (j i : Nat) : Bool := !decide (i = j) && hs G i && hs G j && sn G i j
def into (G : Gd) (j : Nat) : Int32 := bm (inB G j) (gN G)
def srB (G : Gd) (j i : Nat) : Bool := inB G j i && !decide (gK G i = 3)
def sr (G : Gd) (j : Nat) : Int32 := bm (srB G j) (gN G)
def wt (G : Gd) (j : Nat) : Int32 := if gK G j = 4 then 0 else 1
def rtB (G : Gd) (j : Nat) : Bool := hs G j && decide (pc (sr G j) = wt G j)
def rt (G : Gd) : Int32 := bm (rtB G) (gN G)
def hsM (G : Gd) : Int32 := bm (hs G) (gN G)
def cs (G : Gd) (i j : Nat) : Int32 := ds G i j + gV G 3 j
/-- the dearest of those that count, of the first k -/
def dz (G : Gd) (j : Nat) : Nat → Int32
  | 0 => -1
  | k + 1 => if srB G j k = true ∧ (dz G j k = -1 ∨ ¬ cs G k j ≤ cs G (dz G j k).toNatClampNeg j) then nI k else dz G j k
def kp (G : Gd) (j : Nat) : Int32 := if gK G j = 4 then -1 else dz G j (gN G)
/-- what is so of every ground -/
def gW (G : Gd) : Prop := gN G ≤ 8 ∧ (gF G 0 = 0 ∨ gF G 0 = 1) ∧ (∃ a, 1 ≤ a ∧ a ≤ 9 ∧ gF G 1 = nI a) ∧ (∀ i, i < gN G → gK G i ≤ 6 ∧ (∃ a, a ≤ 9 ∧ gV G 1 i = nI a) ∧ (∃ a, a ≤ 9 ∧ gV G 2 i = nI a) ∧ (∃ a, a ≤ 9 ∧ gV G 3 i = nI a) ∧ ∃ a, a ≤ 20 ∧ gV G 4 i = nI a) ∧ ∀ i j, i < gN G → j < gN G → gV G 1 i = gV G 1 j → gV G 2 i = gV G 2 j → i = j
/-- the same, but trees may stand anywhere -/
def gU (G : Gd) : Prop := gN G ≤ 8 ∧ (gF G 0 = 0 ∨ gF G 0 = 1) ∧ (∀ i, i < gN G → gK G i ≤ 6 ∧ (hs G i = true → (∃ a, a ≤ 9 ∧ gV G 1 i = nI a) ∧ (∃ a, a ≤ 9 ∧ gV G 2 i = nI a)) ∧ (∃ a, a ≤ 9 ∧ gV G 3 i = nI a) ∧ ∃ a, a ≤ 20 ∧ gV G 4 i = nI a) ∧ ∀ i j, i < gN G → j < gN G → gV G 1 i = gV G 1 j → gV G 2 i = gV G 2 j → i = j
theorem gW.u {G : Gd} (h : gW G) : gU G := ⟨h.1, h.2.1, fun i hi => ⟨(h.2.2.2.1 i hi).1, fun _ => ⟨(h.2.2.2.1 i hi).2.1, (h.2.2.2.1 i hi).2.2.1⟩, (h.2.2.2.1 i hi).2.2.2⟩, h.2.2.2.2⟩
