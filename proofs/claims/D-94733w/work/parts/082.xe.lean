/-! WHAT IS READ AND NEVER WRITTEN: the statics of Throwable and String, the String constants -/
set_option linter.unusedVariables false
def xe_len : List Nat := [67, 4, 5, 5, 6, 3, 5, 7, 6, 6, 4, 4]
def xe_byt : List (List Int32) := [[32, 114, 117, 108, 101, 32, 99, 97, 112, 105, 116, 97, 108, 32, 110, 117, 109, 98, 101, 114, 32, 104, 121, 112, 104, 101, 110, 32, 108, 105, 110, 101, 32, 112, 97, 103, 101, 32, 99, 101, 108, 108, 115, 32, 98, 101, 103, 105, 110, 32, 109, 105, 100, 100, 108, 101, 32, 101, 110, 100, 32, 97, 108, 111, 110, 101, 32],
  [114, 117, 108, 101],
  [99, 101, 108, 108, 115],
  [98, 101, 103, 105, 110],
  [109, 105, 100, 100, 108, 101],
  [101, 110, 100],
  [97, 108, 111, 110, 101],
  [99, 97, 112, 105, 116, 97, 108],
  [110, 117, 109, 98, 101, 114],
  [104, 121, 112, 104, 101, 110],
  [108, 105, 110, 101],
  [112, 97, 103, 101]]
def xe_own : Nat → String
  | 0 => "RaisedPressModel"
  | _ => "RaisedPress$Reader"
def xe_ix : Nat → Nat
  | 0 => 197
  | 1 => 77
  | 2 => 131
  | 3 => 147
  | 4 => 154
  | 5 => 159
  | 6 => 164
  | 7 => 86
  | 8 => 96
  | 9 => 98
  | 10 => 102
  | _ => 106
def xe_tx : Nat → String
  | 0 => " rule capital number hyphen line page cells begin middle end alone "
  | 1 => "rule"
  | 2 => "cells"
  | 3 => "begin"
  | 4 => "middle"
  | 5 => "end"
  | 6 => "alone"
  | 7 => "capital"
  | 8 => "number"
  | 9 => "hyphen"
  | 10 => "line"
  | _ => "page"
def XE (aK aV : Nat → Nat) (A : Nat → Prop) (U : State) (H : Heap) : Prop :=
  vx_Zq Bundle.tN "UNASSIGNED_STACK" Bundle.steD A U H ∧ vx_Zq Bundle.tN "SUPPRESSED_SENTINEL" Bundle.listD A U H ∧ va_Z "java/lang/String" "COMPACT_STRINGS" "Z" (.int 1) A U H ∧ va_Zq "jdk/internal/util/Preconditions" "SIOOBE_FORMATTER" "Ljava/util/function/BiFunction;" A U H ∧ vk_S 12 xe_len xe_byt aK aV A U H ∧ ∀ i, i < 12 → vk_R (xe_own i) (xe_ix i) (xe_tx i) (aK i) U
/-- what is read stays true: for a callee that may change less, at a heap where nothing of it changed -/
theorem XE.pass {aK aV : Nat → Nat} {A A1 : Nat → Prop} {s U : State} {H : Heap} {locs : List Loc} (h : XE aK aV A s s.heap) (hS : va_S A s.heap H locs) (hW : s.WarmedH U.vm) (hA : ∀ q, A1 q → A q) : XE aK aV A1 U H := by
  obtain ⟨h1, h2, h3, h4, h5, h6⟩ := h
  have hq : ∀ a : Nat, a < s.heap.size → ¬ A a → H[a]? = s.heap[a]? := fun a h7 h8 => hS.2.1 a h7 h8
  exact ⟨((h1.kept hq).moved hW.alike).narrow hA, ((h2.kept hq).moved hW.alike).narrow hA, ((h3.kept hq).moved hW.alike).narrow hA, ((h4.kept hq).moved hW.alike).narrow hA, ((h5.kept hq).moved hW.alike).narrow hA, fun i hi => (h6 i hi).warm hW⟩
theorem XE.same {aK aV : Nat → Nat} {A : Nat → Prop} {u U : State} {H : Heap} (hv : U.vm = u.vm) (h : XE aK aV A u H) : XE aK aV A U H := by
  obtain ⟨h1, h2, h3, h4, h5, h6⟩ := h
  have hA : u.vm.Alike U.vm := by rw [hv]; exact Vm.Alike.refl _
  exact ⟨h1.moved hA, h2.moved hA, h3.moved hA, h4.moved hA, h5.moved hA, fun i hi => (h6 i hi).same hv⟩
