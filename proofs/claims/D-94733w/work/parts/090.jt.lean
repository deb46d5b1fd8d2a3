/-! exceptions over the typed memory: thrown, caught, handed on -/
set_option linter.unusedVariables false
def jx_en (e : Nat) : String := if e = 2 then "RaisedPress$Bad" else if e = 3 then "RaisedPress$Refused" else if e = 100 then "java/lang/ArrayIndexOutOfBoundsException" else "java/lang/NegativeArraySizeException"
/-- the method's table of handlers -/
def JE (X : JC) (hh : List (Nat × Nat × Nat × Nat)) : Prop := (jj_c X).exceptionTable.toList = tableOf hh
/-- an exception of class E at q is thrown over the frame at pc -/
def JT (X : JC) (A : Nat → Prop) (Q : State → Prop) (nL : Nat) (P : Heap → Prop) (k n : Nat) (pc : Nat) (lv : List (Nat × Value)) (E : String) (q : Nat) : Prop :=
  ∀ (H : Heap) (locs : List Loc) (ls : Array Slot) (rest : List Value) (ce : Cell), P H → va_S A (jj_s X).heap H locs → lv_has ls nL lv → H[q]? = some ce → ce.vm = .none → (jj_s X).vm.findClass E = some ce.cls → vx_W X.1 X.2.1 X.2.2.1 X.2.2.2.1 X.2.2.2.2.1 X.2.2.2.2.2.1 X.2.2.2.2.2.2.1 X.2.2.2.2.2.2.2.1 X.2.2.2.2.2.2.2.2.1 X.2.2.2.2.2.2.2.2.2 H locs k n Q (F0 (jj_m X) pc ls rest) q
/-- what a method may throw: one kind, told by its number -/
def jx_XB (e : Nat) (D : va_G) (dA : Nat → Nat) (K : XK) (sz : Nat) : String → Nat → (Nat × XK × XS) → State → Prop := fun E q w t => E = jx_en e ∧ q = w.1 ∧ jx_BA D dA K sz w.2 t
def jx_XC (e : Nat) (PX : Nat → XK → XS → Prop) (D : va_G) (dA : Nat → Nat) (K : XK) (sz : Nat) (A : Nat → Prop) : String → Nat → State → State → Prop := vx_X (fun w : Nat × XK × XS => PX w.1 w.2.1 w.2.2) (jx_XB e D dA K sz) A
/-- what the body of a method that may throw owes -/
abbrev jx_QX (X : JC) (Qc : Array Value → State → Outcome → State → Prop) (XC : String → Nat → State → State → Prop) (mc ms : Nat) (A : Nat → Prop) : State → Prop := vx_MQ (jj_b X) Qc XC (jj_a X) (jj_s X) mc ms A
section JT1
variable {X : JC} {A : Nat → Prop} {Q : State → Prop} {nL : Nat} {P : Heap → Prop} {k n pc : Nat} {lv : List (Nat × Value)} {st : List Value} {own : String} {cc : ByteArray} {ret : Option FieldType} {F LL mc ms : Nat} {D : va_G} {dA aK aV : Nat → Nat} {K K0 : XK} {u : XS} {sz : Nat} {E : String} {q : Nat}
theorem jt_ret {Qc : Array Value → State → Outcome → State → Prop} {XC : String → Nat → State → State → Prop} (h : JJ X A (jj_Q X Qc mc ms A) nL P k n pc lv st) : JJ X A (jx_QX X Qc XC mc ms A) nL P k n pc lv st := fun H locs ls hP hS hh => vx_ret (h H locs ls hP hS hh)
theorem jt_sub {lv2 : List (Nat × Value)} (ks : List Nat) (hl : lv_pick lv ks = lv2) (h : JT X A Q nL P k n pc lv2 E q) : JT X A Q nL P k n pc lv E q := fun H locs ls rest ce hP hS hh => h H locs ls rest ce hP hS (lv_sub hh ks hl)
theorem jt_cs {k2 n2 : Nat} (h1 : k = k2) (h2 : n = n2) (h : JT X A Q nL P k2 n2 pc lv E q) : JT X A Q nL P k n pc lv E q := by subst h1; subst h2; exact h
/-- handed on -/
theorem jt_out {Qc : Array Value → State → Outcome → State → Prop} {e : Nat} {PX : Nat → XK → XS → Prop} (hX : JX X own cc nL ret F LL mc ms) (hE : JE X []) (hc : k ≤ mc) (hs : n ≤ ms) (hl : XLe K0 K) (h : PX q K u) : JT X (AX K0 sz) (jx_QX X Qc (jx_XC e PX D dA K0 sz (AX K0 sz)) mc ms (AX K0 sz)) nL (XP D dA (AX K0 sz) K u) k n pc lv (jx_en e) q := by
  intro H locs ls rest ce hP hS hh h1 h2 h3
  refine vx_out (fun x hx => ?_) hX.2.2.2.2.2.1 h1 h2 h3 (fun t ht hA => ⟨(q, K, u), h, ⟨rfl, rfl, jx_hBA hl H t hP ht⟩, hS.F ht⟩) hS.2.2 hc hs
  rw [show (jj_c X).exceptionTable.toList = [] from hE] at hx
  cases hx
/-- caught by the first row that covers it -/
theorem jt_catch0 {a b c d : Nat} {suf : List (Nat × Nat × Nat × Nat)} {nm : String} (hX : JX X own cc nL ret F LL mc ms) (hN : JN (jj_s X)) (hE : JE X ((a, b, c, d) :: suf)) (hcov : covers ⟨a, b, c, d⟩ pc = true) (h0 : d ≠ 0) (hlk : (Cond.classLink own d nm) ∈ lw_all) (hca : (Cond.castable E nm) ∈ jx_nest) (h : JJ X A Q nL P k n c lv [.ref q]) : JT X A Q nL P k n pc lv E q :=
  fun H locs ls rest ce hP hS hh h1 h2 h3 => vx_catch hX.2.2.2.1 [] ⟨a, b, c, d⟩ (tableOf suf) hE (fun z hz => nomatch hz) hcov h0 (hX.2.2.2.2.1 _ hlk) (hN.use hca) h1 h2 h3 (h H locs ls hP hS hh)
/-- .. by the second one: the first doesn't cover it -/
theorem jt_catch1 {a1 b1 c1 d1 a b c d : Nat} {suf : List (Nat × Nat × Nat × Nat)} {nm : String} (hX : JX X own cc nL ret F LL mc ms) (hN : JN (jj_s X)) (hE : JE X ((a1, b1, c1, d1) :: (a, b, c, d) :: suf)) (hno : covers ⟨a1, b1, c1, d1⟩ pc = false) (hcov : covers ⟨a, b, c, d⟩ pc = true) (h0 : d ≠ 0) (hlk : (Cond.classLink own d nm) ∈ lw_all) (hca : (Cond.castable E nm) ∈ jx_nest) (h : JJ X A Q nL P k n c lv [.ref q]) : JT X A Q nL P k n pc lv E q :=
  fun H locs ls rest ce hP hS hh h1 h2 h3 => vx_catch hX.2.2.2.1 [⟨a1, b1, c1, d1⟩] ⟨a, b, c, d⟩ (tableOf suf) hE (fun z hz => by rw [List.mem_singleton] at hz; subst hz; exact Or.inl hno) hcov h0 (hX.2.2.2.2.1 _ hlk) (hN.use hca) h1 h2 h3 (h H locs ls hP hS hh)
/-- .. by the second one: the first doesn't take it -/
theorem jt_catch2 {a1 b1 c1 d1 a b c d : Nat} {suf : List (Nat × Nat × Nat × Nat)} {nm nm1 : String} (hX : JX X own cc nL ret F LL mc ms) (hN : JN (jj_s X)) (hE : JE X ((a1, b1, c1, d1) :: (a, b, c, d) :: suf)) (h01 : d1 ≠ 0) (hlk1 : (Cond.classLink own d1 nm1) ∈ lw_all) (hnc : (E, nm1) ∈ jx_nc) (hcov : covers ⟨a, b, c, d⟩ pc = true) (h0 : d ≠ 0) (hlk : (Cond.classLink own d nm) ∈ lw_all) (hca : (Cond.castable E nm) ∈ jx_nest) (h : JJ X A Q nL P k n c lv [.ref q]) : JT X A Q nL P k n pc lv E q :=
  fun H locs ls rest ce hP hS hh h1 h2 h3 => vx_catch hX.2.2.2.1 [⟨a1, b1, c1, d1⟩] ⟨a, b, c, d⟩ (tableOf suf) hE (fun z hz => by rw [List.mem_singleton] at hz; subst hz; exact Or.inr ⟨h01, nm1, hX.2.2.2.2.1 _ hlk1, hN.2.2.2.2 _ hnc⟩) hcov h0 (hX.2.2.2.2.1 _ hlk) (hN.use hca) h1 h2 h3 (h H locs ls hP hS hh)
/-- thrown: an object of ours -/
theorem jj_athrow {c N : Nat} {C : String} {T : u_T} {ty0 : Nat → FieldType} (hX : JX X own cc nL ret F LL mc ms) (hY : JY X D dA aK aV A) (hF : JF c C T N ty0) (h1 : K q = (1, c)) (d : decode cc pc = .ok (.athrow, 1)) (h : JT X A Q nL (XP D dA A K u) k n pc lv C q) : JJ X A Q nL (XP D dA A K u) k n pc lv (.ref q :: st) := by
  intro H locs ls hP hS hh
  obtain ⟨cell, q1, q2, q3, -⟩ := hP.1.ob h1 hF
  exact vx_athrow hX.1 hX.2.1 d (h H locs ls st cell hP hS hh q1 (by rw [q3]) (by rw [q2]; exact (hY.1.kn hF).2.1))
/-- instanceof and checkcast of rows -/
theorem jx_aclass {H : Heap} {a t n0 : Nat} (hY : JY X D dA aK aV A) (hP : XP D dA A K u H) (h1 : K a = (t + 2, n0)) (nm : String) (hnm : (jj_s X).vm.findClass nm = some (dA t)) : ∃ cell : Cell, H[a]? = some cell ∧ cell.vm.isStatics = false ∧ (jj_s X).vm.findClass nm = some cell.cls := by
  obtain ⟨h2, h3⟩ := hP.1.2.1 a t n0 h1
  exact ⟨_, h3, rfl, hnm⟩
theorem jx_nm0 (hY : JY X D dA aK aV A) : (jj_s X).vm.findClass "[I" = some (dA 0) := va_nm_int (hY.1.arr (t := 0) rfl).2
theorem jx_nm1 (hY : JY X D dA aK aV A) : (jj_s X).vm.findClass "[B" = some (dA 1) := va_nm_byte (hY.1.arr (t := 1) rfl).2
theorem jx_nm2 (hY : JY X D dA aK aV A) : (jj_s X).vm.findClass "[S" = some (dA 2) := va_nm_short (hY.1.arr (t := 2) rfl).2
theorem jx_nm3 (hY : JY X D dA aK aV A) : (jj_s X).vm.findClass "[J" = some (dA 3) := va_nm_long (hY.1.arr (t := 3) rfl).2
theorem jx_instY {ix a t n0 : Nat} {nm : String} (hX : JX X own cc nL ret F LL mc ms) (hY : JY X D dA aK aV A) (h1 : K a = (t + 2, n0)) (hnm : (jj_s X).vm.findClass nm = some (dA t)) (hlk : (Cond.classLink own ix nm) ∈ lw_all) (d : decode cc pc = .ok (.instanceof ix, 3)) (q : Nat) (hq : pc + 3 = q) (h : JJ X A Q nL (XP D dA A K u) k n q lv (.int 1 :: st)) : JJ X A Q nL (XP D dA A K u) k n pc lv (.ref a :: st) := by
  subst hq
  exact fun H locs ls hP hS hh => va_instE hX.1 hX.2.1 hX.2.2.2.1 (hX.2.2.2.2.1 _ hlk) (jx_aclass hY hP h1 nm hnm) d (h H locs ls hP hS hh)
theorem jx_instN {ix a t n0 : Nat} {nm nm1 : String} (hX : JX X own cc nL ret F LL mc ms) (hY : JY X D dA aK aV A) (h1 : K a = (t + 2, n0)) (hnm1 : (jj_s X).vm.findClass nm1 = some (dA t)) (hnc : (nm1, nm) ∈ jx_nc) (hlk : (Cond.classLink own ix nm) ∈ lw_all) (d : decode cc pc = .ok (.instanceof ix, 3)) (q : Nat) (hq : pc + 3 = q) (h : JJ X A Q nL (XP D dA A K u) k n q lv (.int 0 :: st)) : JJ X A Q nL (XP D dA A K u) k n pc lv (.ref a :: st) := by
  subst hq
  exact fun H locs ls hP hS hh => va_instNo hX.1 hX.2.1 hX.2.2.2.1 (hX.2.2.2.2.1 _ hlk) (hY.2.1.2.2.2.2 _ hnc) (jx_aclass hY hP h1 nm1 hnm1) d (h H locs ls hP hS hh)
theorem jx_acast {ix a t n0 : Nat} {nm : String} (hX : JX X own cc nL ret F LL mc ms) (hY : JY X D dA aK aV A) (h1 : K a = (t + 2, n0)) (hnm : (jj_s X).vm.findClass nm = some (dA t)) (hlk : (Cond.classLink own ix nm) ∈ lw_all) (d : decode cc pc = .ok (.checkcast ix, 3)) (q : Nat) (hq : pc + 3 = q) (h : JJ X A Q nL (XP D dA A K u) k n q lv (.ref a :: st)) : JJ X A Q nL (XP D dA A K u) k n pc lv (.ref a :: st) := by
  subst hq
  exact fun H locs ls hP hS hh => va_castE hX.1 hX.2.1 hX.2.2.2.1 (hX.2.2.2.2.1 _ hlk) (jx_aclass hY hP h1 nm hnm) d (h H locs ls hP hS hh)
/-- a row of one of the four widths: the order of the questions is bytes (1), shorts (2), ints (0), longs (3) -/
def xTray (K : XK) (a : Nat) : Prop := ∃ t n, t < 4 ∧ K a = (t + 2, n)
def jx_is (K : XK) (a t : Nat) : Int32 := if (K a).1 = t + 2 then 1 else 0
theorem jx_inst {ix a t : Nat} {nm : String} (hX : JX X own cc nL ret F LL mc ms) (hY : JY X D dA aK aV A) (h1 : xTray K a) (ht : t < 3) (hno : t = 0 → (K a).1 ≠ 3 ∧ (K a).1 ≠ 4) (hno2 : t = 2 → (K a).1 ≠ 3) (hnm : (jj_s X).vm.findClass nm = some (dA t)) (hnn : nm = (["[I", "[B", "[S"][t]?).getD "") (hlk : (Cond.classLink own ix nm) ∈ lw_all) (d : decode cc pc = .ok (.instanceof ix, 3)) (q : Nat) (hq : pc + 3 = q) (h : ∀ v : Int32, v = jx_is K a t → JJ X A Q nL (XP D dA A K u) k n q lv (.int v :: st)) : JJ X A Q nL (XP D dA A K u) k n pc lv (.ref a :: st) := by
  obtain ⟨t2, n2, g1, g2⟩ := h1
  by_cases e : t2 = t
  · subst e
    exact jx_instY hX hY g2 hnm hlk d q hq (h 1 (by simp [jx_is, g2]))
  · have h0 := h 0 (by simp [jx_is, g2]; omega)
    subst hnn
    have hz := hno
    have hz2 := hno2
    rw [g2] at hz hz2
    match t, t2, ht, g1, e with
    | 0, 1, _, _, _ => exact absurd rfl (hz rfl).1
    | 0, 2, _, _, _ => exact absurd rfl (hz rfl).2
    | 0, 3, _, _, _ => exact jx_instN hX hY g2 (jx_nm3 hY) (by simp [jx_nc]) hlk d q hq h0
    | 1, 0, _, _, _ => exact jx_instN hX hY g2 (jx_nm0 hY) (by simp [jx_nc]) hlk d q hq h0
    | 1, 2, _, _, _ => exact jx_instN hX hY g2 (jx_nm2 hY) (by simp [jx_nc]) hlk d q hq h0
    | 1, 3, _, _, _ => exact jx_instN hX hY g2 (jx_nm3 hY) (by simp [jx_nc]) hlk d q hq h0
    | 2, 0, _, _, _ => exact jx_instN hX hY g2 (jx_nm0 hY) (by simp [jx_nc]) hlk d q hq h0
    | 2, 1, _, _, _ => exact absurd rfl (hz2 rfl)
    | 2, 3, _, _, _ => exact jx_instN hX hY g2 (jx_nm3 hY) (by simp [jx_nc]) hlk d q hq h0
end JT1
