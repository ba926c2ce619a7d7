/-! THE SIGHTS' GEOMETRY -/
def gCk (u v : Nat) : Bool :=
  let dx := nI u - 9
  let dy := nI v - 9
  let P := gcI 16 (ab dx) (ab dy)
  let p := P.toNatClampNeg
  decide (p ≤ 9) && decide (P = nI p) && decide (dx / P * P = dx) && decide (dy / P * P = dy) && (List.range (p + 1)).all (fun k2 => (List.range k2).all (fun k1 => !(decide (dx / P * nI k1 = dx / P * nI k2) && decide (dy / P * nI k1 = dy / P * nI k2))))
theorem gCk_ok : ∀ u, u < 19 → ∀ v, v < 19 → gCk u v = true := by decide +kernel
theorem gC19 : ∀ a, a < 10 → ∀ b, b < 10 → ∃ u, u < 19 ∧ nI b - nI a = nI u - 9 := by
  intro a ha b hb
  refine ⟨9 + b - a, by omega, ?_⟩
  have : ∀ a, a < 10 → ∀ b, b < 10 → nI b - nI a = nI (9 + b - a) - 9 := by decide +kernel
  exact this a ha b hb
theorem stn_iff {G : Gd} {i j t k : Nat} : stn G i j t k = true ↔ gV G 1 t = gV G 1 i + (gV G 1 j - gV G 1 i) / pt G i j * nI k ∧ gV G 2 t = gV G 2 i + (gV G 2 j - gV G 2 i) / pt G i j * nI k := by
  unfold stn
  simp
theorem i32_cancel {a b c : Int32} (h : a + b = a + c) : b = c := by
  have : a + b - a = a + c - a := by rw [h]
  rw [Int32.add_comm a b, Int32.add_comm a c, Int32.add_sub_cancel, Int32.add_sub_cancel] at this
  exact this
theorem geo {G : Gd} (hU : gU G) {i j : Nat} (hi : i < gN G) (hj : j < gN G) (qi : hs G i = true) (qj : hs G j = true) : ∃ p, p ≤ 9 ∧ pt G i j = nI p ∧ ptN G i j = p ∧ (∀ t k1 k2, k1 ≤ p → k2 ≤ p → stn G i j t k1 = true → stn G i j t k2 = true → k1 = k2) ∧ stn G i j i 0 = true ∧ stn G i j j p = true := by
  obtain ⟨⟨a, ha, ea⟩, ⟨c, hc, ec⟩⟩ := (hU.2.2.1 i hi).2.1 qi
  obtain ⟨⟨b, hb, eb⟩, ⟨d, hd, ed⟩⟩ := (hU.2.2.1 j hj).2.1 qj
  obtain ⟨u, hu, eu⟩ := gC19 a (by omega) b (by omega)
  obtain ⟨v, hv, ev⟩ := gC19 c (by omega) d (by omega)
  have ex : gV G 1 j - gV G 1 i = nI u - 9 := by rw [ea, eb]; exact eu
  have ey : gV G 2 j - gV G 2 i = nI v - 9 := by rw [ec, ed]; exact ev
  have ck := gCk_ok u hu v hv
  unfold gCk at ck
  have eP : pt G i j = gcI 16 (ab (nI u - 9)) (ab (nI v - 9)) := by unfold pt; rw [ex, ey]
  simp only [← eP] at ck
  simp only [Bool.and_eq_true, decide_eq_true_eq, List.all_eq_true, List.mem_range, Bool.not_eq_true', Bool.and_eq_false_imp, decide_eq_false_iff_not] at ck
  obtain ⟨⟨⟨⟨c1, c2⟩, c3⟩, c4⟩, c5⟩ := ck
  have apart : ∀ t k1 k2, k1 < k2 → k2 ≤ ptN G i j → stn G i j t k1 = true → stn G i j t k2 = true → False := by
    intro t k1 k2 h1 h2 s1 s2
    rw [stn_iff, ex, ey] at s1 s2
    have n1 := i32_cancel (s1.1.symm.trans s2.1)
    have n2 := i32_cancel (s1.2.symm.trans s2.2)
    exact c5 k2 (by unfold ptN at h2; omega) k1 h1 n1 n2
  refine ⟨ptN G i j, c1, c2, rfl, ?_, ?_, ?_⟩
  · intro t k1 k2 h1 h2 s1 s2
    rcases Nat.lt_trichotomy k1 k2 with q | q | q
    · exact (apart t k1 k2 q h2 s1 s2).elim
    · exact q
    · exact (apart t k2 k1 q h1 s2 s1).elim
  · rw [stn_iff, nI_0]
    simp
  · rw [stn_iff]
    have e2 : nI (ptN G i j) = pt G i j := c2.symm
    rw [e2, ex, ey, c3, c4, ← ex, ← ey]
    constructor
    · rw [Int32.add_comm, Int32.sub_add_cancel]
    · rw [Int32.add_comm, Int32.sub_add_cancel]
theorem blk_no {G : Gd} {i j t : Nat} : ∀ {K : Nat}, (∀ k, 1 ≤ k → k < K → stn G i j t k = true → too G i j t k = false) → blk G i j t K = false
  | 0, _ => rfl
  | K + 1, h => by
    show (blk G i j t K || _) = false
    rw [blk_no (fun k h1 h2 => h k h1 (by omega))]
    by_cases h0 : K = 0
    · simp [h0]
    · cases hs : stn G i j t K with
      | false => simp
      | true => simp [h K (by omega) (by omega) hs]
theorem blk_at {G : Gd} {i j t : Nat} {k : Nat} (h1 : 1 ≤ k) (hst : stn G i j t k = true) : ∀ {K : Nat}, k < K → (∀ k', 1 ≤ k' → k' < K → stn G i j t k' = true → k' = k) → blk G i j t K = too G i j t k
  | 0, h, _ => by omega
  | K + 1, h, hu => by
    show (blk G i j t K || _) = _
    by_cases e : K = k
    · subst e
      rw [blk_no (K := K) (fun k' q1 q2 q3 => absurd (hu k' q1 (by omega) q3) (by omega)), hst]
      have : ¬ K = 0 := by omega
      simp [this]
    · rw [blk_at h1 hst (by omega) (fun k' q1 q2 q3 => hu k' q1 (by omega) q3)]
      cases hs : stn G i j t K with
      | false => simp
      | true => exact absurd (hu K (by omega) (by omega) hs) e
/-- who stands somewhere, of the first m -/
def atB (G : Gd) (x y : Int32) (t : Nat) : Bool := decide (gV G 1 t = x) && decide (gV G 2 t = y)
def atI (G : Gd) (x y : Int32) : Int32 := fst (atB G x y) (gN G) 0
theorem gc_le : ∀ (n b a : Nat), b < n → a < 2 ^ 31 → b < 2 ^ 31 → ∃ g, g < 2 ^ 31 ∧ gcI n (nI a) (nI b) = nI g := by
  intro n
  induction n with
  | zero => intro b a h; omega
  | succ n ih =>
    intro b a h ha hb
    rw [gcI_s]
    by_cases q : nI b = 0
    · rw [if_pos q]; exact ⟨a, ha, rfl⟩
    · have hb0 : 0 < b := by
        rcases Nat.eq_zero_or_pos b with z | z
        · subst z; exact absurd nI_0 q
        · exact z
      rw [if_neg q, pk_rem ha hb0 hb]
      have := Nat.mod_lt a hb0
      exact ih (a % b) b (by omega) hb (by omega)
theorem ab_10 : ∀ a, a < 10 → ∀ b, b < 10 → ∃ c, c < 10 ∧ ab (nI a - nI b) = nI c := by
  intro a ha b hb
  refine ⟨(a - b) + (b - a), by omega, ?_⟩
  have : ∀ a, a < 10 → ∀ b, b < 10 → ab (nI a - nI b) = nI ((a - b) + (b - a)) := by decide +kernel
  exact this a ha b hb
theorem fst_m1 {p : Nat → Bool} {n : Nat} (hn : n ≤ 8) (h : fst p n 0 = -1) : ∀ k, k < n → p k = false := by
  intro k hk
  rcases @fst_ge p n 0 with e | ⟨t, -, ht, -, -, e⟩
  · cases hp : p k with
    | false => rfl
    | true =>
      exfalso
      obtain ⟨t, ht, hm⟩ := pk_least (fun k => k < n ∧ p k = true) ⟨k, hk, hp⟩
      have := fst_some (p := p) (t := t) ht.2 (m := n) (i := 0) (Nat.zero_le _) (by omega) (fun a _ ha => by
        cases hq : p a with
        | false => rfl
        | true => exact absurd ⟨by omega, hq⟩ (hm a ha))
      rw [this] at h
      exact nI_m1 (by omega) h
  · rw [e] at h
    exact absurd h (nI_m1 (by omega))
theorem fst_add {q : Nat → Bool} {n t : Nat} (hn : n ≤ 8) (ht : t < n) : (fst q n 0 = -1 → fst (fun k => q k || decide (k = t)) n 0 = nI t) ∧ (¬ fst q n 0 = -1 → (fst q n 0 ≤ nI t → fst (fun k => q k || decide (k = t)) n 0 = fst q n 0) ∧ (¬ fst q n 0 ≤ nI t → fst (fun k => q k || decide (k = t)) n 0 = nI t)) := by
  refine ⟨fun h => ?_, fun h => ?_⟩
  · refine fst_some (p := fun k => q k || decide (k = t)) (t := t) (by simp) (Nat.zero_le _) (by omega) (fun k _ hk => ?_)
    have h1 := fst_m1 hn h k (by omega)
    have h2 : ¬ k = t := by omega
    simp [h1, h2]
  · rcases @fst_ge q n 0 with e | ⟨u, -, hu, qu, hm, e⟩
    · exact absurd e h
    · rw [e]
      refine ⟨fun le => ?_, fun le => ?_⟩
      · have hle := (nI_leI (by omega) (by omega)).mp le
        refine fst_some (p := fun k => q k || decide (k = t)) (t := u) (by simp [qu]) (Nat.zero_le _) (by omega) (fun k _ hk => ?_)
        have h1 := hm k (Nat.zero_le _) hk
        have h2 : ¬ k = t := by omega
        simp [h1, h2]
      · have hle : t < u := by
          rcases Nat.lt_or_ge t u with z | z
          · exact z
          · exact absurd (nI_le z (by omega)) le
        refine fst_some (p := fun k => q k || decide (k = t)) (t := t) (by simp) (Nat.zero_le _) (by omega) (fun k _ hk => ?_)
        have h1 := hm k (Nat.zero_le _) (by omega)
        have h2 : ¬ k = t := by omega
        simp [h1, h2]
/-- towers taken out, the first i of them -/
def mk3 (G : Gd) (j i : Nat) : Int32 := bm (fun t => inB G j t && (decide (i ≤ t) || !decide (gK G t = 3))) (gN G)
theorem mk3_0 (G : Gd) (j : Nat) : mk3 G j 0 = into G j := bm_congr (fun t _ => by simp)
theorem mk3_n (G : Gd) (j : Nat) : mk3 G j (gN G) = sr G j := bm_congr (fun t ht => by
  have : ¬ gN G ≤ t := by omega
  simp [this, srB])
theorem mk3_f {G : Gd} {j i : Nat} (h : ¬ gK G i = 3) : mk3 G j i = mk3 G j (i + 1) := bm_congr (fun t ht => by
  by_cases e : t = i
  · subst e; simp [h]
  · have : (i ≤ t) = (i + 1 ≤ t) := by rw [eq_iff_iff]; omega
    simp only [this])
theorem mk3_t {G : Gd} {j i : Nat} (hn : gN G ≤ 8) (hi : i < gN G) (h : gK G i = 3) : mk3 G j i &&& (((1 : Int32) <<< (nI i &&& 31)) ^^^ (-1)) = mk3 G j (i + 1) := by
  unfold mk3
  refine b_ext (fun t ht => ?_)
  rw [bt_clr _ (by omega) ht, bm_bt _ (by omega) ht, bm_bt _ (by omega) ht]
  by_cases e : t = i
  · subst e; simp [h]
  · have : (i ≤ t) = (i + 1 ≤ t) := by rw [eq_iff_iff]; omega
    simp only [this, e]
    simp
theorem and_m1 (x : Int32) : x &&& (-1) = x := b_ext (fun i hi => by rw [b_and, b_m1 i hi, Bool.and_true])
