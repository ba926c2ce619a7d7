/-! the law's start and the whole, out of the calls -/
def G00 : Gd := (0, fun k => if k = 0 then 1 else if k = 1 then 9 else if k = 3 then 1 else 0, fun _ => 0, fun _ _ => 0, fun _ => false, fun _ _ => false)
theorem l_start (q a1 a2 a3 a4 a5 a6 a7 a8 a9 a10 a11 a12 a13 a14 a15 a16 a17 a18 a19 a20 : Nat) (hD : gD (δS q a1 a2 a3 a4 a5 a6 a7 a8 a9 a10 a11 a12 a13 a14 a15 a16 a17 a18 a19 a20).1 (adX (δS q a1 a2 a3 a4 a5 a6 a7 a8 a9 a10 a11 a12 a13 a14 a15 a16 a17 a18 a19 a20)) (fun _ => True)) : RL (δS q a1 a2 a3 a4 a5 a6 a7 a8 a9 a10 a11 a12 a13 a14 a15 a16 a17 a18 a19 a20) (σS a5 a9 a13 a14 a15 a16 a17 a18 a19 a20) σM q := by
  have sh8 : ∀ s, s < 8 → s = 0 ∨ s = 1 ∨ s = 2 ∨ s = 3 ∨ s = 4 ∨ s = 5 ∨ s = 6 ∨ s = 7 := by omega
  have gW0 : gW G00 := ⟨by decide, Or.inr rfl, ⟨9, by decide, by decide, rfl⟩, fun i hi => absurd hi (Nat.not_lt_zero i), fun i j hi => absurd hi (Nat.not_lt_zero i)⟩
  refine ⟨G00, a9, a5, fun s => [a13, a14, a15, a16, a17, a18, a19, a20].getD s 0, gW0, ⟨rfl, rfl, rfl, rfl, rfl, fun i hi => absurd hi (Nat.not_lt_zero i)⟩, ⟨rfl, rfl, rfl, rfl, rfl, rfl, fun i hi => absurd hi (Nat.not_lt_zero i)⟩, ⟨⟨by simp [δS], by simp [δS], by simp [δS], by simp [δS], by simp [δS]⟩, ⟨by simp [δS], by simp [δS], by simp [δS], by simp [δS]⟩, ⟨by simp [δS], by simp [δS], by simp [δS], by simp [δS]⟩, ?_, rfl, rfl, fun _ _ _ => rfl, rfl, ⟨0, by decide, rfl, rfl⟩, fun _ _ => rfl, fun _ _ => rfl, Or.inl ⟨rfl, rfl⟩⟩, ⟨fun s hs => ⟨?_, ?_, Or.inl ⟨rfl, rfl⟩⟩, fun s s' hs hs' e => ?_, fun s s' o hs hs' e => by cases e⟩⟩
  · intro e
    have := hD.1 15 11 (6, a5) (6, a9) rfl rfl e
    omega
  · rcases sh8 s hs with rfl | rfl | rfl | rfl | rfl | rfl | rfl | rfl <;> rfl
  · rcases sh8 s hs with rfl | rfl | rfl | rfl | rfl | rfl | rfl | rfl <;> simp [δS]
  · have k : ∀ s, s < 8 → ∃ κ : Nat × Nat, (δS q a1 a2 a3 a4 a5 a6 a7 a8 a9 a10 a11 a12 a13 a14 a15 a16 a17 a18 a19 a20).1[7 - s]? = some κ ∧ adX (δS q a1 a2 a3 a4 a5 a6 a7 a8 a9 a10 a11 a12 a13 a14 a15 a16 a17 a18 a19 a20) κ = [a13, a14, a15, a16, a17, a18, a19, a20].getD s 0 := by
      intro s hs
      rcases sh8 s hs with rfl | rfl | rfl | rfl | rfl | rfl | rfl | rfl <;> exact ⟨_, rfl, rfl⟩
    obtain ⟨κ, k1, k2⟩ := k s hs
    obtain ⟨κ', k1', k2'⟩ := k s' hs'
    have := hD.1 (7 - s) (7 - s') κ κ' k1 k1' (by rw [k2, k2']; exact e)
    omega
