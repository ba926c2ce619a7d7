/-! THE MODEL's SIGHTS in plain terms -/
def RM (G : Gd) (σ : MSt) : Prop := σ.1 0 = nI (gN G) ∧ σ.1 1 = gF G 0 ∧ σ.1 2 = gF G 1 ∧ σ.1 3 = gF G 2 ∧ σ.1 4 = gF G 3 ∧ ∀ i, i < gN G → σ.2.1 7 i = nI (gK G i) ∧ σ.2.1 8 i = gV G 1 i ∧ σ.2.1 9 i = gV G 2 i ∧ σ.2.1 10 i = gV G 4 i ∧ σ.2.1 11 i = gV G 3 i ∧ σ.2.1 12 i = bI (gC G i) ∧ σ.2.1 13 i = bm (gS G i) (gN G)
theorem kq {a c : Nat} {x : Int32} (ha : a ≤ 6) (hc : c ≤ 6) (hx : x = nI c) : (nI a = x) = (a = c) := by
  rw [hx, eq_iff_iff]
  exact nI_eq (by omega) (by omega)
section PM
variable {G : Gd} {σ : MSt} {K : Int32 → Prop} {i j : Nat}
theorem mp_many {x : Int32} (h : sm x) (hK : K (pc x)) : mw_many σ K x := by
  unfold mw_many
  refine lpU (fun n s i => mw_many_4 σ K n x s i) (fun i s => s = (List.range i).foldl (fun n b => n + ((x >>> (nI b &&& 31)) &&& 1)) 0) 8 0 rfl ?_ ?_
  · intro n s hs
    show mw_many_4_b σ K (mw_many_4 σ K n) x s (nI 8)
    unfold mw_many_4_b
    refine br_t (nI_le (Nat.le_refl 8) (by decide)) ?_
    rw [hs]; exact hK
  · intro n i s hi hs L
    show mw_many_4_b σ K (mw_many_4 σ K n) x s (nI i)
    unfold mw_many_4_b
    refine br_f (nI_ge (b := 8) hi (by decide)) (L _ ?_)
    rw [List.range_succ, List.foldl_append, hs]
    rfl
theorem mp_isThing (hR : RM G σ) (hn : gN G ≤ 8) {x : Int32} (h0 : (¬ ∃ i, i < gN G ∧ x = nI i) → K 0) (h1 : ∀ i, i < gN G → x = nI i → K 1) : mw_isThing σ K x := by
  unfold mw_isThing
  rw [hR.1]
  rcases pk_ix x (n := gN G) (by omega) with q | q | ⟨i, hi, rfl⟩
  · exact br_t q (h0 (fun ⟨i, hi, e⟩ => by rw [e] at q; exact nI_pos (by omega) q))
  · refine br_c (fun c => h0 (fun ⟨i, hi, e⟩ => by rw [e] at c; exact nI_pos (by omega) c)) (fun c => br_t q (h0 (fun ⟨i, hi, e⟩ => by rw [e] at q; exact nI_ge hi (by omega) q)))
  · exact br_f (nI_pos (by omega)) (br_f (nI_ge hi (by omega)) (h1 i hi rfl))
theorem mp_isHouse (hR : RM G σ) (hn : gN G ≤ 8) (hi : i < gN G) (h6 : gK G i ≤ 6) (hK : K (bI (hs G i))) : mw_isHouse σ K (nI i) := by
  obtain ⟨k7, -⟩ := hR.2.2.2.2.2 i hi
  have h8 : i < 8 := by omega
  unfold mw_isHouse
  simp only [pcl h8, k7, kq h6 (show 0 ≤ 6 by decide) (show (0 : Int32) = nI 0 from rfl), kq h6 (show 2 ≤ 6 by decide) (show (2 : Int32) = nI 2 from rfl), kq h6 (show 6 ≤ 6 by decide) (show (6 : Int32) = nI 6 from rfl)]
  unfold hs at hK
  refine ⟨pin h8, fun c => ?_, fun c => ⟨pin h8, fun d => ?_, fun d => ⟨pin h8, fun f => ?_, fun f => ?_⟩⟩⟩
  · simpa [bI, c] using hK
  · simpa [bI, d] using hK
  · simpa [bI, f] using hK
  · simpa [bI, c, d, f] using hK
theorem mp_sizeOf {x : Int32} (hK : K (ab x)) : mw_sizeOf σ K x := by
  unfold mw_sizeOf
  refine br_c (fun c => ?_) (fun c => ?_)
  · rwa [ab, if_pos c] at hK
  · rw [ab, if_neg c] at hK
    rwa [Int32.zero_sub] at hK
theorem mx_le (a b : Int32) {A B : Prop} (hA : mx a b = b → A) (hB : mx a b = a → B) : (a ≤ b → A) ∧ (¬ a ≤ b → B) := by
  refine br_c (fun c => hA ?_) (fun c => hB ?_)
  · unfold mx
    by_cases h : a < b
    · rw [if_pos h]
    · rw [if_neg h]
      exact Int32.le_antisymm c (Int32.not_lt.mp h)
  · unfold mx
    rw [if_neg (fun h => c (Int32.le_of_lt h))]
theorem mp_distance (hR : RM G σ) (hn : gN G ≤ 8) (hi : i < gN G) (hj : j < gN G) (hK : K (ds G i j)) : mw_distance σ K (nI i) (nI j) := by
  obtain ⟨-, k8, k9, -⟩ := hR.2.2.2.2.2 i hi
  obtain ⟨-, l8, l9, -⟩ := hR.2.2.2.2.2 j hj
  have h8 : i < 8 := by omega
  have g8 : j < 8 := by omega
  unfold mw_distance
  simp only [pcl h8, pcl g8, k8, k9, l8, l9]
  refine ⟨pin h8, pin g8, mp_sizeOf ⟨pin h8, pin g8, mp_sizeOf ?_⟩⟩
  unfold ds at hK
  exact mx_le _ _ (fun e => by rw [← e]; exact hK) (fun e => by rw [← e]; exact hK)
theorem mp_at (hR : RM G σ) (hn : gN G ≤ 8) {x y : Int32} (hK : K (atI G x y)) : mw_at σ K x y := by
  unfold mw_at
  refine lpU (fun n (_ : Unit) t => mw_at_2 σ K n x y t) (fun i _ => K (fst (atB G x y) (gN G - i) i)) (gN G) () hK ?_ ?_
  · intro n s hs
    show mw_at_2_b _ _ _ _ _ _
    unfold mw_at_2_b
    rw [hR.1]
    refine br_t (nI_le (Nat.le_refl _) (by omega)) ?_
    rw [Nat.sub_self] at hs
    exact hs
  · intro n t s ht hs L
    show mw_at_2_b _ _ _ _ _ _
    obtain ⟨-, k8, k9, -⟩ := hR.2.2.2.2.2 t ht
    have h8 : t < 8 := by omega
    unfold mw_at_2_b
    rw [hR.1]
    simp only [pcl h8, k8, k9]
    have e : gN G - t = (gN G - (t + 1)) + 1 := by omega
    rw [e] at hs
    refine br_f (nI_ge ht (by omega)) ⟨pin h8, ?_⟩
    refine ⟨fun c => L () ?_, fun c => ⟨pin h8, fun d => L () ?_, fun d => ?_⟩⟩
    · rw [fst_f (by unfold atB; simp [c])] at hs; exact hs
    · rw [fst_f (by unfold atB; simp [d])] at hs; exact hs
    · rw [fst_t (by unfold atB; simp [c, d])] at hs; exact hs
theorem mp_divides : ∀ (n b a : Nat) (K : Int32 → Prop), b < n → a < 2 ^ 31 → b < 2 ^ 31 → K (gcI n (nI a) (nI b)) → mw_divides σ n K (nI a) (nI b) := by
  intro n
  induction n with
  | zero => intro b a K h; omega
  | succ n ih =>
    intro b a K h ha hb hK
    show mw_divides_b σ (mw_divides σ n) K (nI a) (nI b)
    unfold mw_divides_b
    rw [gcI_s] at hK
    by_cases q : nI b = 0
    · rw [if_pos q] at hK
      exact ⟨fun c => absurd q c, fun _ => hK⟩
    · have hb0 : 0 < b := by
        rcases Nat.eq_zero_or_pos b with z | z
        · subst z; exact absurd nI_0 q
        · exact z
      rw [if_neg q] at hK
      refine ⟨fun _ => ⟨q, ?_⟩, fun c => absurd c q⟩
      rw [pk_rem ha hb0 hb] at hK ⊢
      have := Nat.mod_lt a hb0
      exact ih (a % b) b K (by omega) hb (by omega) hK
theorem mp_eyes (hR : RM G σ) (hn : gN G ≤ 8) (hi : i < gN G) (h6 : gK G i ≤ 6) (hK : K (ey G i)) : mw_eyes σ K (nI i) := by
  obtain ⟨k7, k8, k9, k10, k11, -⟩ := hR.2.2.2.2.2 i hi
  have h8 : i < 8 := by omega
  unfold mw_eyes
  simp only [pcl h8, k7, k10, k11, kq h6 (show 3 ≤ 6 by decide) (show (3 : Int32) = nI 3 from rfl)]
  unfold ey at hK
  refine ⟨pin h8, fun c => ⟨pin h8, ?_⟩, fun c => ⟨pin h8, pin h8, ?_⟩⟩
  · rwa [if_neg c] at hK
  · rwa [if_pos c] at hK
theorem mp_tall (hR : RM G σ) (hn : gN G ≤ 8) (hi : i < gN G) (h6 : gK G i ≤ 6) (hK : K (tl G i)) : mw_tall σ K (nI i) := by
  obtain ⟨k7, k8, k9, k10, k11, -⟩ := hR.2.2.2.2.2 i hi
  have h8 : i < 8 := by omega
  unfold mw_tall mw_tall_29 mw_tall_43
  simp only [pcl h8, k7, k10, k11, hR.2.1, kq h6 (show 6 ≤ 6 by decide) (show (6 : Int32) = nI 6 from rfl), kq h6 (show 2 ≤ 6 by decide) (show (2 : Int32) = nI 2 from rfl)]
  unfold tl at hK
  refine ⟨pin h8, fun c => ⟨pin h8, pin h8, ?_⟩, fun c => ⟨pin h8, fun d => ⟨pin h8, fun _ => ⟨pin h8, ?_⟩, fun q => absurd q d⟩, fun d => ⟨fun f => ⟨pin h8, fun q => absurd d q, fun _ => ?_⟩, fun f => ⟨pin h8, pin h8, ?_⟩⟩⟩⟩
  · simpa [c] using hK
  · simpa [c, d] using hK
  · simpa [c, d, f] using hK
  · simpa [c, d, f] using hK
end PM
