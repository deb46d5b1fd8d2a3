/-! PLAIN LAW: how many dots -/
set_option linter.unusedVariables false
def bcI (x : Int32) : Int32 :=
  let v9 := x - ((x.toUInt32 >>> ((1 : Int32).toUInt32 &&& Int32.toUInt32 31)).toInt32 &&& (1431655765 : Int32))
  let v23 := (v9 &&& (858993459 : Int32)) + ((v9.toUInt32 >>> ((2 : Int32).toUInt32 &&& Int32.toUInt32 31)).toInt32 &&& (858993459 : Int32))
  let v33 := (v23 + (v23.toUInt32 >>> ((4 : Int32).toUInt32 &&& Int32.toUInt32 31)).toInt32) &&& (252645135 : Int32)
  let v40 := v33 + (v33.toUInt32 >>> ((8 : Int32).toUInt32 &&& Int32.toUInt32 31)).toInt32
  let v47 := v40 + (v40.toUInt32 >>> ((16 : Int32).toUInt32 &&& Int32.toUInt32 31)).toInt32
  v47 &&& (63 : Int32)
def bcN (c : Nat) : Nat := c % 2 + c / 2 % 2 + c / 4 % 2 + c / 8 % 2 + c / 16 % 2 + c / 32 % 2
theorem bcN_le {c : Nat} : bcN c ≤ 6 := by unfold bcN; omega
def blF : Nat → Int32 → Int32 → Option Int32
  | 0, _, _ => none
  | f + 1, n, k => if k = 0 then some n else blF f (n + 1) (k &&& (k - 1))
theorem blF_ok {P : Int32 → Prop} {r : Int32} : ∀ f n k, blF f n k = some r → P r → mw_bits_L4 P f n k
  | 0, n, k, h, hP => by simp [blF] at h
  | f + 1, n, k, h, hP => by
    unfold blF at h
    unfold mw_bits_L4 mw_bits_L4_S
    by_cases c : k = 0
    · rw [if_pos c] at h
      injection h with h
      exact ⟨fun _ => by rw [h]; exact hP, fun z => absurd c z⟩
    · rw [if_neg c] at h
      refine ⟨fun z => absurd z c, fun _ v8 e8 v16 e16 => ?_⟩
      subst e8 e16
      exact blF_ok f _ _ h hP
set_option maxRecDepth 100000 in
theorem bc_all : ∀ c : Fin 64, bcI (nI c.val) = nI (bcN c.val) ∧ blF 8 0 (nI c.val) = some (nI (bcN c.val)) := by decide
theorem js_bit {c : Nat} (hc : c ≤ 63) (P : Int32 → Prop) : js_bitCount (nI c) P = P (nI (bcN c)) := by
  have h := (bc_all ⟨c, by omega⟩).1
  show js_bitCount (nI c) P = _
  have h : bcI (nI c) = nI (bcN c) := h
  rw [← h]
  unfold js_bitCount bcI
  simp only [forall_eq]
theorem m_bits {c : Nat} {P : Int32 → Prop} (hc : c ≤ 63) (hP : P (nI (bcN c))) : mw_bits (nI c) P := by
  have h : blF 8 0 (nI c) = some (nI (bcN c)) := (bc_all ⟨c, by omega⟩).2
  exact ⟨8, blF_ok 8 _ _ h hP⟩
