/-! ground: the text's grammar -/
def tcB (t : Nat → Int32) (n : Nat) (c : Int32) (p : Nat) : Bool := decide (p < n) && decide (t p = c)
def dg (t : Nat → Int32) (n p : Nat) : Bool := decide (p < n) && (!decide (t p < 48) && !decide (57 < t p))
def vl (t : Nat → Int32) (n p : Nat) : Int32 := if dg t n (p + 1) = true then 10 * (t p - 48) + t (p + 1) - 48 else t p - 48
def pe (t : Nat → Int32) (n p : Nat) : Nat := if dg t n (p + 1) = true then p + 2 else p + 1
def nuS {R : Type} (t : Nat → Int32) (n p : Nat) (so : Int32 → Bool) (k : Int32 → Nat → R) (x : Nat → R) : R := if tcB t n 32 p = true then (if dg t n (p + 1) = true ∧ so (vl t n (p + 1)) = true then k (vl t n (p + 1)) (pe t n (p + 1)) else x (p + 1)) else x p
def Wl : Nat → List Int32
  | 0 => [116, 104, 105, 110, 103]
  | 1 => [115, 117, 109, 109, 101, 114]
  | 2 => [102, 97, 114]
  | 3 => [115, 104, 117, 116]
  | _ => [100, 114, 97, 119]
def pre (t : Nat → Int32) (n : Nat) : List Int32 → Nat → Nat
  | [], _ => 0
  | c :: l, p => if tcB t n c p = true then pre t n l (p + 1) + 1 else 0
def wst (t : Nat → Int32) (n p : Nat) : Nat := if tcB t n 116 p = true then 0 else if tcB t n 115 p = true then (if tcB t n 117 (p + 1) = true then 1 else 3) else if tcB t n 102 p = true then 2 else 4
def kwC {R : Type} (t : Nat → Int32) (n : Nat) (full : Bool) (p : Nat) (k : Nat → Nat → R) (x : Nat → R) : R := if pre t n (Wl (wst t n p)) p < (Wl (wst t n p)).length then x (p + pre t n (Wl (wst t n p)) p) else if wst t n p = 0 ∧ full = true then x p else k (wst t n p) (p + (Wl (wst t n p)).length)
def rng (lo hi v : Int32) : Bool := !decide (v < lo) && !decide (hi < v)
def hsB (G : Gd) (v : Int32) : Bool := decide (v.toNatClampNeg < gN G) && hs G v.toNatClampNeg
def gsh (G : Gd) (a b : Nat) : Gd := setS G (fun i j => if i = a ∧ j = b then true else gS G i j)
def gdr (G : Gd) (a : Nat) : Gd := setC G (fun i => if i = a then true else gC G i)
def itC {R : Type} (t : Nat → Int32) (n : Nat) (G : Gd) (p : Nat) (k : Gd → Nat → R) (x : Nat → R) : R :=
  kwC t n (decide (gN G = 8)) p (fun w p' =>
    if w = 0 then nuS t n p' (rng 0 6) (fun v0 p0 => nuS t n p0 (rng 0 9) (fun v1 p1 => nuS t n p1 (fun v => rng 0 9 v && decide (atI G v1 v = -1)) (fun v2 p2 => nuS t n p2 (rng 0 20) (fun v3 p3 => nuS t n p3 (rng 0 9) (fun v4 p4 => k (addG G v0.toNatClampNeg v1 v2 v3 v4) p4) x) x) x) x) x
    else if w = 1 then nuS t n p' (rng 0 1) (fun v q => k (setF G 0 v) q) x
    else if w = 2 then nuS t n p' (rng 1 9) (fun v q => k (setF G 1 v) q) x
    else if w = 3 then nuS t n p' (hsB G) (fun v q => nuS t n q (fun v' => hsB G v' && !decide (v' = v)) (fun v' q' => k (gsh G v.toNatClampNeg v'.toNatClampNeg) q') x) x
    else nuS t n p' (hsB G) (fun v q => k (gdr G v.toNatClampNeg) q) x) x
def itsC {R : Type} (t : Nat → Int32) (n : Nat) (k : Gd → Int32 → R) (x : Nat → R) : Nat → Gd → Nat → Int32 → R
  | 0, G, _, c => k G c
  | f + 1, G, p, c => if p = n then k G c else if t p = 59 then itC t n G (p + 1) (fun G' p' => itsC t n k x f G' p' (c + 1)) x else x p
section Gram
variable {t : Nat → Int32} {n p : Nat} {G : Gd}
theorem dg_lt (h : dg t n p = true) : p < n := by
  unfold dg at h
  simp only [Bool.and_eq_true, decide_eq_true_eq] at h
  exact h.1
theorem tcB_lt {c : Int32} (h : tcB t n c p = true) : p < n ∧ t p = c := by
  unfold tcB at h
  simp only [Bool.and_eq_true, decide_eq_true_eq] at h
  exact h
theorem dg_d (h : dg t n p = true) : ∃ d, 48 ≤ d ∧ d < 58 ∧ t p = nI d := by
  unfold dg at h
  simp only [Bool.and_eq_true, Bool.not_eq_true', decide_eq_false_iff_not, decide_eq_true_eq] at h
  obtain ⟨-, h1, h2⟩ := h
  have h0 : ¬ t p < 0 := by
    rw [Int32.lt_iff_toInt_lt] at h1 ⊢
    have e : (48 : Int32).toInt = 48 := by decide
    have e0 : (0 : Int32).toInt = 0 := by decide
    omega
  obtain ⟨d, hd, ed⟩ := nI_of2 (M := 57) (n := 57) (by decide) h0 (Int32.not_lt.mp h2)
  refine ⟨d, ?_, by omega, ed⟩
  rcases Nat.lt_or_ge d 48 with q | q
  · rw [ed] at h1
    exact absurd (nI_lt (a := d) (b := 48) q (by decide)) h1
  · exact q
theorem dd1 : ∀ a, a < 58 → 48 ≤ a → nI a - 48 = nI (a - 48) := by decide +kernel
theorem dd2 : ∀ a, a < 58 → 48 ≤ a → ∀ b, b < 58 → 48 ≤ b → (10 : Int32) * (nI a - 48) + nI b - 48 = nI (10 * (a - 48) + (b - 48)) := by decide +kernel
theorem vl_nn (h : dg t n p = true) : ∃ a, a ≤ 99 ∧ vl t n p = nI a := by
  obtain ⟨a, a1, a2, ea⟩ := dg_d h
  unfold vl
  by_cases c : dg t n (p + 1) = true
  · obtain ⟨b, b1, b2, eb⟩ := dg_d c
    rw [if_pos c, ea, eb, dd2 a a2 a1 b b2 b1]
    exact ⟨_, by omega, rfl⟩
  · rw [if_neg c, ea, dd1 a a2 a1]
    exact ⟨_, by omega, rfl⟩
theorem pe_lt : p < pe t n p := by
  unfold pe
  split <;> omega
theorem pe_le (h : dg t n p = true) : pe t n p ≤ n := by
  unfold pe
  split
  · rename_i c
    have := dg_lt c
    omega
  · have := dg_lt h
    omega
theorem nu_k {R : Type} {so : Int32 → Bool} {k : Int32 → Nat → R} {x : Nat → R} (h1 : tcB t n 32 p = true) (h2 : dg t n (p + 1) = true) (h3 : so (vl t n (p + 1)) = true) : nuS t n p so k x = k (vl t n (p + 1)) (pe t n (p + 1)) := by
  unfold nuS
  rw [if_pos h1, if_pos ⟨h2, h3⟩]
theorem nu_x1 {R : Type} {so : Int32 → Bool} {k : Int32 → Nat → R} {x : Nat → R} (h1 : tcB t n 32 p = true) (h2 : dg t n (p + 1) = true → so (vl t n (p + 1)) = false) : nuS t n p so k x = x (p + 1) := by
  unfold nuS
  rw [if_pos h1, if_neg (fun z => by have := h2 z.1; rw [z.2] at this; cases this)]
theorem nu_x0 {R : Type} {so : Int32 → Bool} {k : Int32 → Nat → R} {x : Nat → R} (h1 : tcB t n 32 p = false) : nuS t n p so k x = x p := by
  unfold nuS
  rw [if_neg (by rw [h1]; decide)]
theorem pre_le : ∀ (l : List Int32) (p : Nat), pre t n l p ≤ l.length
  | [], _ => Nat.le_refl _
  | c :: l, p => by
    unfold pre
    split
    · have := pre_le l (p + 1)
      simp only [List.length_cons]
      omega
    · exact Nat.zero_le _
theorem rng_nn {lo hi : Int32} {a : Nat} {h : Nat} (hh : hi.toInt = h) (hr : rng lo hi (nI a) = true) (ha : a < 2 ^ 31) : a ≤ h := by
  unfold rng at hr
  simp only [Bool.and_eq_true, Bool.not_eq_true', decide_eq_false_iff_not] at hr
  have := hr.2
  rw [Int32.lt_iff_toInt_lt, hh, nI_toInt ha] at this
  omega
theorem hsB_nn {a : Nat} (ha : a < 2 ^ 31) : hsB G (nI a) = true ↔ a < gN G ∧ hs G a = true := by
  unfold hsB
  rw [nI_clamp ha]
  simp only [Bool.and_eq_true, decide_eq_true_eq]
end Gram
