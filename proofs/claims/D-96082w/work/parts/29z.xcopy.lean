/-! System.arraycopy that fails -/
def arT (ty : FieldType) (m : Nat) : String := toString (Native.java_lang_System.arraycopy.kindName ty) ++ toString "[" ++ toString m ++ toString "]"
theorem int_print {z : Int} (h0 : 0 ≤ z) (h : z < 10000000000) : (toString z).toList.length ≤ 10 := by
  cases z with
  | ofNat m =>
    have h' : m < 10 ^ 10 := by
      have : ((m : Nat) : Int) < 10000000000 := h
      have e : (10 : Nat) ^ 10 = 10000000000 := by decide
      omega
    show (toString m).toList.length ≤ 10
    exact nat_print h'
  | negSucc m => exact absurd h0 (by omega)
theorem kn_len {ty : FieldType} (h : refKind ty = false) : (Native.java_lang_System.arraycopy.kindName ty).toList.length ≤ 7 := by
  cases ty <;> first | decide | (simp [refKind] at h)
theorem cf_len {ty : FieldType} (hty : refKind ty = false) {a b : Nat} {sp dp n : Int32} {w : String} (ha : a < 2147483648) (hb : b < 2147483648) (h : copyFault ty ty a b sp dp n = some w) : ("arraycopy: " ++ w).toList.length ≤ 225 := by
  have k1 := kn_len hty
  have p1 := int32_print sp
  have p2 := int32_print dp
  have p3 := int32_print n
  have q1 := nat_print (n := a) (by omega)
  have q2 := nat_print (n := b) (by omega)
  have t1 := Int32.toInt_lt sp
  have t2 := Int32.toInt_lt dp
  have t3 := Int32.toInt_lt n
  have nn : ∀ z : Int32, ¬ z < 0 → 0 ≤ z.toInt := by
    intro z hz
    have := Int32.not_lt.mp hz
    simpa using Int32.le_iff_toInt_le.mp this
  rw [String.toList_append, List.length_append]
  have e0 : "arraycopy: ".toList.length = 11 := by decide
  suffices hw : w.toList.length ≤ 120 by omega
  have ar : ∀ (m : Nat), (toString m).toList.length ≤ 10 → (arT ty m).toList.length ≤ 20 := by
    intro m hm
    show (toString (Native.java_lang_System.arraycopy.kindName ty) ++ toString "[" ++ toString m ++ toString "]").toList.length ≤ 20
    have e1 : (toString "[").toList.length = 1 := by decide
    have e2 : (toString "]").toList.length = 1 := by decide
    simp only [String.toList_append, List.length_append]
    simp only [toString] at *
    omega
  have A1 := ar a q1
  have A2 := ar b q2
  unfold copyFault at h
  split at h
  · have h := Option.some.inj h
    rw [← h]
    show (toString "source index " ++ toString sp ++ toString " out of bounds for " ++ toString (arT ty a)).toList.length ≤ 120
    have e1 : (toString "source index ").toList.length = 13 := by decide
    have e2 : (toString " out of bounds for ").toList.length = 19 := by decide
    have e3 : (toString (arT ty a)).toList.length ≤ 20 := A1
    simp only [String.toList_append, List.length_append]
    omega
  · split at h
    · have h := Option.some.inj h
      rw [← h]
      show (toString "destination index " ++ toString dp ++ toString " out of bounds for " ++ toString (arT ty b)).toList.length ≤ 120
      have e1 : (toString "destination index ").toList.length = 18 := by decide
      have e2 : (toString " out of bounds for ").toList.length = 19 := by decide
      have e3 : (toString (arT ty b)).toList.length ≤ 20 := A2
      simp only [String.toList_append, List.length_append]
      omega
    · split at h
      · have h := Option.some.inj h
        rw [← h]
        show (toString "length " ++ toString n ++ toString " is negative").toList.length ≤ 120
        have e1 : (toString "length ").toList.length = 7 := by decide
        have e2 : (toString " is negative").toList.length = 12 := by decide
        simp only [String.toList_append, List.length_append]
        omega
      · rename_i c1 c2 c3
        have z1 := nn sp c1
        have z2 := nn dp c2
        have z3 := nn n c3
        split at h
        · have h := Option.some.inj h
          rw [← h]
          have p4 := int_print (z := sp.toInt + n.toInt) (by omega) (by omega)
          show (toString "last source index " ++ toString (sp.toInt + n.toInt) ++ toString " out of bounds for " ++ toString (arT ty a)).toList.length ≤ 120
          have e1 : (toString "last source index ").toList.length = 18 := by decide
          have e2 : (toString " out of bounds for ").toList.length = 19 := by decide
          have e3 : (toString (arT ty a)).toList.length ≤ 20 := A1
          simp only [String.toList_append, List.length_append]
          omega
        · split at h
          · have h := Option.some.inj h
            rw [← h]
            have p4 := int_print (z := dp.toInt + n.toInt) (by omega) (by omega)
            show (toString "last destination index " ++ toString (dp.toInt + n.toInt) ++ toString " out of bounds for " ++ toString (arT ty b)).toList.length ≤ 120
            have e1 : (toString "last destination index ").toList.length = 23 := by decide
            have e2 : (toString " out of bounds for ").toList.length = 19 := by decide
            have e3 : (toString (arT ty b)).toList.length ≤ 20 := A2
            simp only [String.toList_append, List.length_append]
            omega
          · cases h
theorem cf_mod {w : String} : (("arraycopy: " ++ w) == notModelled) = false := by
  rw [beq_eq_false_iff_ne]
  intro h
  have h2 := congrArg String.toList h
  have h3 : ("arraycopy: " ++ w).toList = 'a' :: ("rraycopy: ".toList ++ w.toList) := by
    rw [String.toList_append]
    rfl
  rw [h3] at h2
  have h4 : notModelled.toList = '\u0000' :: " a message that is not modelled".toList := by decide
  rw [h4] at h2
  simp at h2
theorem cf_some {ty : FieldType} {a b : Nat} {sp dp n : Int32} (h : ¬ Cpy sp dp n a b) : ∃ w, copyFault ty ty a b sp dp n = some w := by
  have nn : ∀ z : Int32, ¬ z < 0 → z.toInt = (z.toNatClampNeg : Int) := by
    intro z hz
    have hz0 : (0 : Int) ≤ z.toInt := by
      have := Int32.not_lt.mp hz
      simpa using Int32.le_iff_toInt_le.mp this
    show z.toInt = ((z.toInt.toNat : Nat) : Int)
    omega
  unfold copyFault
  split
  · exact ⟨_, rfl⟩
  · split
    · exact ⟨_, rfl⟩
    · split
      · exact ⟨_, rfl⟩
      · rename_i c1 c2 c3
        split
        · exact ⟨_, rfl⟩
        · split
          · exact ⟨_, rfl⟩
          · rename_i c4 c5
            refine absurd ⟨c1, c2, c3, ?_, ?_⟩ h
            · rw [nn sp c1, nn n c3] at c4; omega
            · rw [nn dp c2, nn n c3] at c5; omega
