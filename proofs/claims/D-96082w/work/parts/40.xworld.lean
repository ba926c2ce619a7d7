/-! the roles of what SeenByOne's constructor has made -/
def δ00 : XSh := ([], fun _ _ => 0, fun _ => 0, fun _ => 0)
def σ00 : XSt := (fun _ _ _ => 0, fun _ _ _ => 0, fun _ _ _ => none)
def δS (q a1 a2 a3 a4 a5 a6 a7 a8 a9 a10 a11 a12 a13 a14 a15 a16 a17 a18 a19 a20 : Nat) : XSh := ([(5, a20), (5, a19), (5, a18), (5, a17), (5, a16), (5, a15), (5, a14), (5, a13), (10, a9), (9, a9), (8, a9), (6, a9), (10, a5), (9, a5), (8, a5), (6, a5), (4, q), (3, q), (2, q), (1, q), (0, q)], fun k i => if i = a5 then (if k = 8 then a6 else if k = 9 then a7 else a8) else if i = a9 then (if k = 8 then a10 else if k = 9 then a11 else a12) else (if k = 1 then a1 else if k = 2 then a2 else if k = 3 then a3 else a4), fun _ => 0, fun _ => 0)
def σS (a5 a9 a13 a14 a15 a16 a17 a18 a19 a20 : Nat) : XSt := (fun k _ j => if k = 6 then (if j = 1 then 1 else if j = 2 then 9 else if j = 5 then 1 else 0) else if k = 0 then -1 else 0, fun _ _ _ => 0, fun k _ j => if k = 0 then (if j = 3 then some a5 else if j = 4 then some a9 else none) else if k = 1 then (va_up (va_up (va_up (va_up (va_up (va_up (va_up (va_up (fun _ => none) (0 : Int32).toNatClampNeg (some a13)) (1 : Int32).toNatClampNeg (some a14)) (2 : Int32).toNatClampNeg (some a15)) (3 : Int32).toNatClampNeg (some a16)) (4 : Int32).toNatClampNeg (some a17)) (5 : Int32).toNatClampNeg (some a18)) (6 : Int32).toNatClampNeg (some a19)) (7 : Int32).toNatClampNeg (some a20)) j else none)
theorem mkS {Γ : GA} {H : Heap} {A : Nat → Prop} {q a1 a2 a3 a4 a5 a6 a7 a8 a9 a10 a11 a12 a13 a14 a15 a16 a17 a18 a19 a20 : Nat} (hR : va_P Γ.1 clA ([(a20, .inr (4, [.null])), (a19, .inr (4, [.null])), (a18, .inr (4, [.null])), (a17, .inr (4, [.null])), (a16, .inr (4, [.null])), (a15, .inr (4, [.null])), (a14, .inr (4, [.null])), (a13, .inr (4, [.null])), (a12, .inl (Γ.2 0, 8, .inl (fun _ => 0))), (a11, .inl (Γ.2 0, 8, .inl (fun _ => 0))), (a10, .inl (Γ.2 4, 8, .inr (.inr (.inr (.inr (fun _ => none)))))), (a9, .inr (3, [.int 0, .int 1, .int 9, .int 0, .int 0, .int 1, .ref a10, .ref a11, .ref a12])), (a8, .inl (Γ.2 0, 8, .inl (fun _ => 0))), (a7, .inl (Γ.2 0, 8, .inl (fun _ => 0))), (a6, .inl (Γ.2 4, 8, .inr (.inr (.inr (.inr (fun _ => none)))))), (a5, .inr (3, [.int 0, .int 1, .int 9, .int 0, .int 0, .int 1, .ref a6, .ref a7, .ref a8])), (a4, .inl (Γ.2 0, 20, .inl (fun _ => 0))), (a3, .inr (2, [.ref a4, .int 0])), (a2, .inl (Γ.2 0, 8, .inl (fun _ => 0))), (a1, .inl (Γ.2 5, 8, .inr (.inr (.inr (.inr (va_up (va_up (va_up (va_up (va_up (va_up (va_up (va_up (fun _ => none) (0 : Int32).toNatClampNeg (some a13)) (1 : Int32).toNatClampNeg (some a14)) (2 : Int32).toNatClampNeg (some a15)) (3 : Int32).toNatClampNeg (some a16)) (4 : Int32).toNatClampNeg (some a17)) (5 : Int32).toNatClampNeg (some a18)) (6 : Int32).toNatClampNeg (some a19)) (7 : Int32).toNatClampNeg (some a20))))))), (q, .inr (1, [.ref a1, .ref a2, .ref a3, .ref a5, .ref a9, .null, .int (-1)]))] ++ []) H) (hRD : va_D A ([(a20, .inr (4, [.null])), (a19, .inr (4, [.null])), (a18, .inr (4, [.null])), (a17, .inr (4, [.null])), (a16, .inr (4, [.null])), (a15, .inr (4, [.null])), (a14, .inr (4, [.null])), (a13, .inr (4, [.null])), (a12, .inl (Γ.2 0, 8, .inl (fun _ => 0))), (a11, .inl (Γ.2 0, 8, .inl (fun _ => 0))), (a10, .inl (Γ.2 4, 8, .inr (.inr (.inr (.inr (fun _ => none)))))), (a9, .inr (3, [.int 0, .int 1, .int 9, .int 0, .int 0, .int 1, .ref a10, .ref a11, .ref a12])), (a8, .inl (Γ.2 0, 8, .inl (fun _ => 0))), (a7, .inl (Γ.2 0, 8, .inl (fun _ => 0))), (a6, .inl (Γ.2 4, 8, .inr (.inr (.inr (.inr (fun _ => none)))))), (a5, .inr (3, [.int 0, .int 1, .int 9, .int 0, .int 0, .int 1, .ref a6, .ref a7, .ref a8])), (a4, .inl (Γ.2 0, 20, .inl (fun _ => 0))), (a3, .inr (2, [.ref a4, .int 0])), (a2, .inl (Γ.2 0, 8, .inl (fun _ => 0))), (a1, .inl (Γ.2 5, 8, .inr (.inr (.inr (.inr (va_up (va_up (va_up (va_up (va_up (va_up (va_up (va_up (fun _ => none) (0 : Int32).toNatClampNeg (some a13)) (1 : Int32).toNatClampNeg (some a14)) (2 : Int32).toNatClampNeg (some a15)) (3 : Int32).toNatClampNeg (some a16)) (4 : Int32).toNatClampNeg (some a17)) (5 : Int32).toNatClampNeg (some a18)) (6 : Int32).toNatClampNeg (some a19)) (7 : Int32).toNatClampNeg (some a20))))))), (q, .inr (1, [.ref a1, .ref a2, .ref a3, .ref a5, .ref a9, .null, .int (-1)]))] ++ [])) : XH Γ (δS q a1 a2 a3 a4 a5 a6 a7 a8 a9 a10 a11 a12 a13 a14 a15 a16 a17 a18 a19 a20) (σS a5 a9 a13 a14 a15 a16 a17 a18 a19 a20) H ∧ XO (δS q a1 a2 a3 a4 a5 a6 a7 a8 a9 a10 a11 a12 a13 a14 a15 a16 a17 a18 a19 a20) ∧ gD (δS q a1 a2 a3 a4 a5 a6 a7 a8 a9 a10 a11 a12 a13 a14 a15 a16 a17 a18 a19 a20).1 (adX (δS q a1 a2 a3 a4 a5 a6 a7 a8 a9 a10 a11 a12 a13 a14 a15 a16 a17 a18 a19 a20)) A := by
  have n1 : a5 ≠ a9 := fun e => by have := hRD.1 15 11 _ _ rfl rfl e; omega
  have n2 : q ≠ a5 := fun e => by have := hRD.1 20 15 _ _ rfl rfl e; omega
  have n3 : q ≠ a9 := fun e => by have := hRD.1 20 11 _ _ rfl rfl e; omega
  have hre := reX (Γ := Γ) (δ := δ00) (σ := σ00) (δ1 := δS q a1 a2 a3 a4 a5 a6 a7 a8 a9 a10 a11 a12 a13 a14 a15 a16 a17 a18 a19 a20) (σ1 := σS a5 a9 a13 a14 a15 a16 a17 a18 a19 a20) (ex := [(a20, .inr (4, [.null])), (a19, .inr (4, [.null])), (a18, .inr (4, [.null])), (a17, .inr (4, [.null])), (a16, .inr (4, [.null])), (a15, .inr (4, [.null])), (a14, .inr (4, [.null])), (a13, .inr (4, [.null])), (a12, .inl (Γ.2 0, 8, .inl (fun _ => 0))), (a11, .inl (Γ.2 0, 8, .inl (fun _ => 0))), (a10, .inl (Γ.2 4, 8, .inr (.inr (.inr (.inr (fun _ => none)))))), (a9, .inr (3, [.int 0, .int 1, .int 9, .int 0, .int 0, .int 1, .ref a10, .ref a11, .ref a12])), (a8, .inl (Γ.2 0, 8, .inl (fun _ => 0))), (a7, .inl (Γ.2 0, 8, .inl (fun _ => 0))), (a6, .inl (Γ.2 4, 8, .inr (.inr (.inr (.inr (fun _ => none)))))), (a5, .inr (3, [.int 0, .int 1, .int 9, .int 0, .int 0, .int 1, .ref a6, .ref a7, .ref a8])), (a4, .inl (Γ.2 0, 20, .inl (fun _ => 0))), (a3, .inr (2, [.ref a4, .int 0])), (a2, .inl (Γ.2 0, 8, .inl (fun _ => 0))), (a1, .inl (Γ.2 5, 8, .inr (.inr (.inr (.inr (va_up (va_up (va_up (va_up (va_up (va_up (va_up (va_up (fun _ => none) (0 : Int32).toNatClampNeg (some a13)) (1 : Int32).toNatClampNeg (some a14)) (2 : Int32).toNatClampNeg (some a15)) (3 : Int32).toNatClampNeg (some a16)) (4 : Int32).toNatClampNeg (some a17)) (5 : Int32).toNatClampNeg (some a18)) (6 : Int32).toNatClampNeg (some a19)) (7 : Int32).toNatClampNeg (some a20))))))), (q, .inr (1, [.ref a1, .ref a2, .ref a3, .ref a5, .ref a9, .null, .int (-1)]))]) (ks := (δS q a1 a2 a3 a4 a5 a6 a7 a8 a9 a10 a11 a12 a13 a14 a15 a16 a17 a18 a19 a20).1) hR hRD (List.append_nil _).symm (by simp [gX, adX, cellX, δS, σS, va_rf, n1, n1.symm, n2, n3]) (fun κ h => nomatch h)
  refine ⟨⟨hre.1, ?_⟩, ⟨?_, ?_, ?_, ?_, ?_⟩, hre.2⟩
  · intro κ hκ j t ht
    obtain ⟨k, i⟩ := κ
    simp only [σS] at ht
    by_cases k0 : k = 0
    · subst k0
      rw [if_pos rfl] at ht
      refine ⟨?_, fun h => absurd (show (0 : Nat) = 8 from h) (by decide), fun h => absurd (show (0 : Nat) = 12 from h.1) (by decide)⟩
      by_cases j3 : j = 3
      · rw [if_pos j3] at ht; cases ht; simp [δS, tk]
      · rw [if_neg j3] at ht
        by_cases j4 : j = 4
        · rw [if_pos j4] at ht; cases ht; simp [δS, tk]
        · rw [if_neg j4] at ht; cases ht
    · rw [if_neg k0] at ht
      by_cases k1 : k = 1
      · subst k1
        rw [if_pos rfl] at ht
        refine ⟨?_, fun h => absurd (show (1 : Nat) = 8 from h) (by decide), fun h => absurd (show (1 : Nat) = 12 from h.1) (by decide)⟩
        have : t = a20 ∨ t = a19 ∨ t = a18 ∨ t = a17 ∨ t = a16 ∨ t = a15 ∨ t = a14 ∨ t = a13 := by
          unfold va_up at ht
          repeat' split at ht
          all_goals first | (cases ht; simp) | cases ht
        rcases this with rfl | rfl | rfl | rfl | rfl | rfl | rfl | rfl <;> simp [δS, tk]
      · rw [if_neg k1] at ht
        cases ht
  · intro g hg
    simp [δS] at hg ⊢
    omega
  · intro t ht
    simp [δS] at ht
  · intro x hx
    simp [δS] at hx ⊢
    omega
  · intro x hx
    simp [δS] at hx ⊢
    omega
  · intro κ hκ
    obtain ⟨k, i⟩ := κ
    simp only [δS, List.mem_cons, List.not_mem_nil, or_false, Prod.mk.injEq] at hκ
    rcases hκ with ⟨rfl, rfl⟩ | ⟨rfl, rfl⟩ | ⟨rfl, rfl⟩ | ⟨rfl, rfl⟩ | ⟨rfl, rfl⟩ | ⟨rfl, rfl⟩ | ⟨rfl, rfl⟩ | ⟨rfl, rfl⟩ | ⟨rfl, rfl⟩ | ⟨rfl, rfl⟩ | ⟨rfl, rfl⟩ | ⟨rfl, rfl⟩ | ⟨rfl, rfl⟩ | ⟨rfl, rfl⟩ | ⟨rfl, rfl⟩ | ⟨rfl, rfl⟩ | ⟨rfl, rfl⟩ | ⟨rfl, rfl⟩ | ⟨rfl, rfl⟩ | ⟨rfl, rfl⟩ | ⟨rfl, rfl⟩ <;> simp [δS, ow]
