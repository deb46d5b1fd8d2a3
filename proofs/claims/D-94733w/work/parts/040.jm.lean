/-! THE PICTURE OF THE REFERENCE: one object, 22 arrays; bank 0: its fields, bank b: its b-th array -/
set_option linter.unusedVariables false
abbrev jmCl : List vw_C := [(RX7, TX7, 46)]
abbrev MS : Type := (Nat → Nat → Int32) × (Nat → Nat → Int64)
def jm_i (u : MS) (b k : Nat) : Int32 := u.1 b k
def jm_l (u : MS) (b k : Nat) : Int64 := u.2 b k
def jm_s (u : MS) (b k : Nat) (v : Int32) : MS := (fun b2 k2 => if b2 = b ∧ k2 = k then v else u.1 b2 k2, u.2)
def jm_sl (u : MS) (b k : Nat) (v : Int64) : MS := (u.1, fun b2 k2 => if b2 = b ∧ k2 = k then v else u.2 b2 k2)
/-- a field that is an array: its bank -/
def jm_fb : Nat → Nat
  | 0 => 1
  | 4 => 2
  | 5 => 3
  | 6 => 4
  | 7 => 5
  | 8 => 6
  | 22 => 7
  | 23 => 8
  | 24 => 9
  | 25 => 10
  | 26 => 11
  | 30 => 12
  | 31 => 13
  | 32 => 14
  | 33 => 15
  | 34 => 16
  | 35 => 17
  | 38 => 18
  | 39 => 19
  | 40 => 20
  | 43 => 21
  | 44 => 22
  | _ => 0
def jm_len : Nat → Nat
  | 1 => 19800
  | 2 => 4
  | 3 => 4
  | 4 => 240
  | 5 => 900
  | 6 => 900
  | 7 => 2600
  | 8 => 1300
  | 9 => 1300
  | 10 => 160
  | 11 => 160
  | 12 => 160
  | 13 => 301
  | 14 => 20
  | 15 => 20
  | 16 => 21
  | 17 => 20
  | 18 => 21
  | 19 => 22
  | 20 => 4161
  | 21 => 1250
  | 22 => 1250
  | _ => 0
def jm_ty : Nat → FieldType
  | 4 => .long
  | 5 => .byte
  | 6 => .byte
  | _ => .int
def jm_tn : Nat → Nat
  | 4 => 2
  | 5 => 1
  | 6 => 1
  | _ => 0
def jm_fv (ad : Nat → Nat) (u : MS) (k : Nat) : Value := if 0 < jm_fb k then .ref (ad (jm_fb k)) else if k = 2 ∨ k = 3 then .long (u.2 0 k) else .int (u.1 0 k)
def jm_el (u : MS) (b j : Nat) : Value := if b = 4 then .long (u.2 b j) else .int (u.1 b j)
abbrev jmTys (dA : Nat → ClassId) : List (ClassId × FieldType) := [(dA 0, .int), (dA 1, .byte), (dA 2, .long)]
def KM (D : va_G) (dA : Nat → ClassId) (U : State) : Prop := va_K D jmCl (jmTys dA) U
theorem KM.moved {D : va_G} {dA : Nat → ClassId} {u U : State} (hvm : u.vm.Alike U.vm) (h : KM D dA u) : KM D dA U := va_K.moved hvm h
theorem KM.kn {D : va_G} {dA : Nat → ClassId} {U : State} (h : KM D dA U) : u_Kn U RX7 TX7 46 (D.1 0) (D.2 0) := h.1 0 _ rfl
theorem KM.arr {D : va_G} {dA : Nat → ClassId} {U : State} (h : KM D dA U) (b : Nat) : ArrOfT U (dA (jm_tn b)) (jm_ty b) := by
  unfold jm_tn jm_ty
  split
  · exact (h.2 2 _ rfl).1
  · exact (h.2 1 _ rfl).1
  · exact (h.2 1 _ rfl).1
  · exact (h.2 0 _ rfl).1
def MD (ad : Nat → Nat) : Prop := ∀ a b, a < 23 → b < 23 → ad a = ad b → a = b
def AM (ad : Nat → Nat) : Nat → Prop := fun q => ∃ b, b < 23 ∧ q = ad b
def MW (D : va_G) (dA ad : Nat → Nat) (u : MS) (H : Heap) : Prop := t_OB (ad 0) (D.1 0) 46 (D.2 0) H (jm_fv ad u) ∧ ∀ b, 0 < b → b < 23 → H[ad b]? = some (arrV (dA (jm_tn b)) (jm_len b) (jm_el u b))
theorem MW.kept {D : va_G} {dA ad : Nat → Nat} {u : MS} {H H1 : Heap} (h : MW D dA ad u H) (hq : ∀ b, b < 23 → H1[ad b]? = H[ad b]?) : MW D dA ad u H1 :=
  ⟨h.1.kept (hq 0 (by omega)), fun b h0 h1 => (hq b h1).trans (h.2 b h0 h1)⟩
theorem MW.lt {D : va_G} {dA ad : Nat → Nat} {u : MS} {H : Heap} (h : MW D dA ad u H) {b : Nat} (hb : b < 23) : ad b < H.size := by
  by_cases h0 : b = 0
  · subst h0
    obtain ⟨cell, q, -⟩ := h.1
    exact (Array.getElem?_eq_some_iff.mp q).1
  · exact (Array.getElem?_eq_some_iff.mp (h.2 b (by omega) hb)).1
theorem jm_puti {D : va_G} {dA ad : Nat → Nat} {u : MS} {H H1 : Heap} (hD : MD ad) (h : MW D dA ad u H) {k : Nat} {v : Int32} (hk : jm_fb k = 0) (h2 : ¬ (k = 2 ∨ k = 3)) (hO : t_OB (ad 0) (D.1 0) 46 (D.2 0) H1 (updV (jm_fv ad u) k (.int v))) (oq : ∀ q : Nat, q ≠ ad 0 → H1[q]? = H[q]?) : MW D dA ad (jm_s u 0 k v) H1 := by
  refine ⟨hO.to fun j _ => ?_, fun b h0 h1 => ?_⟩
  · by_cases hj : j = k
    · subst hj
      simp [updV, jm_fv, jm_s, hk, h2]
    · simp [updV, jm_fv, jm_s, hj]
  · rw [oq _ (fun q => by have := hD b 0 h1 (by omega) q; omega), h.2 b h0 h1]
    have e : jm_el (jm_s u 0 k v) b = jm_el u b := by
      funext j
      simp [jm_el, jm_s, show b ≠ 0 by omega]
    rw [e]
theorem jm_putl {D : va_G} {dA ad : Nat → Nat} {u : MS} {H H1 : Heap} (hD : MD ad) (h : MW D dA ad u H) {k : Nat} {v : Int64} (hk : jm_fb k = 0) (h2 : k = 2 ∨ k = 3) (hO : t_OB (ad 0) (D.1 0) 46 (D.2 0) H1 (updV (jm_fv ad u) k (.long v))) (oq : ∀ q : Nat, q ≠ ad 0 → H1[q]? = H[q]?) : MW D dA ad (jm_sl u 0 k v) H1 := by
  refine ⟨hO.to fun j _ => ?_, fun b h0 h1 => ?_⟩
  · by_cases hj : j = k
    · subst hj
      simp [updV, jm_fv, jm_sl, hk, h2]
    · simp [updV, jm_fv, jm_sl, hj]
  · rw [oq _ (fun q => by have := hD b 0 h1 (by omega) q; omega), h.2 b h0 h1]
    have e : jm_el (jm_sl u 0 k v) b = jm_el u b := by
      funext j
      simp [jm_el, jm_sl, show b ≠ 0 by omega]
    rw [e]
theorem jm_stor {D : va_G} {dA ad : Nat → Nat} {u : MS} {H H1 : Heap} (hD : MD ad) (h : MW D dA ad u H) {b kk : Nat} {v : Int32} (hb0 : 0 < b) (hb : b < 23) (h4 : b ≠ 4) (e1 : H1[ad b]? = some (arrV (dA (jm_tn b)) (jm_len b) (updV (jm_el u b) kk (.int v)))) (oq : ∀ q : Nat, q ≠ ad b → H1[q]? = H[q]?) : MW D dA ad (jm_s u b kk v) H1 := by
  refine ⟨(h.1.kept (oq _ (fun q => by have := hD 0 b (by omega) hb q; omega))).to fun j _ => ?_, fun b2 h0 h1 => ?_⟩
  · have hz : ¬ (0 = b) := by omega
    simp [jm_fv, jm_s, hz]
  · by_cases hbb : b2 = b
    · subst hbb
      rw [e1]
      congr 2
      funext j
      by_cases hj : j = kk
      · subst hj; simp [updV, jm_el, jm_s, h4]
      · simp [updV, jm_el, jm_s, hj]
    · rw [oq _ (fun q => hbb (hD b2 b h1 hb q)), h.2 b2 h0 h1]
      have e : jm_el (jm_s u b kk v) b2 = jm_el u b2 := by
        funext j
        simp [jm_el, jm_s, hbb]
      rw [e]
theorem jm_storl {D : va_G} {dA ad : Nat → Nat} {u : MS} {H H1 : Heap} (hD : MD ad) (h : MW D dA ad u H) {kk : Nat} {v : Int64} (e1 : H1[ad 4]? = some (arrV (dA (jm_tn 4)) (jm_len 4) (updV (jm_el u 4) kk (.long v)))) (oq : ∀ q : Nat, q ≠ ad 4 → H1[q]? = H[q]?) : MW D dA ad (jm_sl u 4 kk v) H1 := by
  refine ⟨(h.1.kept (oq _ (fun q => by have := hD 0 4 (by omega) (by omega) q; omega))).to fun j _ => ?_, fun b2 h0 h1 => ?_⟩
  · simp [jm_fv, jm_sl]
  · by_cases hbb : b2 = 4
    · subst hbb
      rw [e1]
      congr 2
      funext j
      by_cases hj : j = kk
      · subst hj; simp [updV, jm_el, jm_sl]
      · simp [updV, jm_el, jm_sl, hj]
    · rw [oq _ (fun q => hbb (hD b2 4 h1 (by omega) q)), h.2 b2 h0 h1]
      have e : jm_el (jm_sl u 4 kk v) b2 = jm_el u b2 := by
        funext j
        simp [jm_el, jm_sl, hbb]
      rw [e]
section JM1
variable {X : JC} {Q : State → Prop} {nL : Nat} {k n pc : Nat} {lv : List (Nat × Value)} {st : List Value} {own : String} {cc : ByteArray} {ret : Option FieldType} {F LL mc ms : Nat} {D : va_G} {dA ad : Nat → Nat} {u : MS} {A : Nat → Prop}
theorem jm_get {ix : Nat} {v : Value} (hX : JX X own cc nL ret F LL mc ms) (hK : KM D dA (jj_s X)) (f : Nat) (hf : f < 46) (hlk : (Cond.fieldLink own ix (TX7 f).1 (TX7 f).2.1 (TX7 f).2.2.1) ∈ lw_all) (hv : jm_fv ad u f = v) (d : decode cc pc = .ok (.getfield ix, 3)) (q : Nat) (hq : pc + 3 = q) (h : JJ X A Q nL (MW D dA ad u) k n q lv (v :: st)) : JJ X A Q nL (MW D dA ad u) k n pc lv (.ref (ad 0) :: st) := by
  subst hq
  exact fun H locs ls hP hS hh => jj_getW hX.1 hX.2.1 hX.2.2.2.2.1 in_X7 hX.2.2.2.1 hK.kn hP.1 f hf (hX.2.2.2.2.1 _ hlk) (fun _ h9 => h9) hv d (h H locs ls hP hS hh)
theorem jm_put {ix : Nat} {v : Int32} (hX : JX X own cc nL ret F LL mc ms) (hK : KM D dA (jj_s X)) (hD : MD ad) (f : Nat) (hf : f < 46) (hfb : jm_fb f = 0) (h2 : ¬ (f = 2 ∨ f = 3)) (hlk : (Cond.fieldLink own ix (TX7 f).1 (TX7 f).2.1 (TX7 f).2.2.1) ∈ lw_all) (hfin : (TX7 f).2.2.2 = false) (hty : parseFieldDescriptor (TX7 f).2.2.1 = some .int) (d : decode cc pc = .ok (.putfield ix, 3)) (q : Nat) (hq : pc + 3 = q) (h : ∀ u2 : MS, u2 = jm_s u 0 f v → JJ X (AM ad) Q nL (MW D dA ad u2) k n q lv st) : JJ X (AM ad) Q nL (MW D dA ad u) k n pc lv (.int v :: .ref (ad 0) :: st) := by
  subst hq
  exact fun H locs ls hP hS hh => jj_putW hX.1 hX.2.1 hX.2.2.2.2.1 in_X7 tyX7 tyX7_ok nmX7 hX.2.2.2.1 hK.kn hP.1 f hf (hX.2.2.2.2.1 _ hlk) (fun _ h9 => h9) hfin hty rfl rfl d (fun H1 e1 e2 e3 => h _ rfl H1 _ ls (jm_puti hD hP hfb h2 e1 e3) (hS.put e2 e3 ⟨0, by omega, rfl⟩) hh)
theorem jm_putL {ix : Nat} {v : Int64} (hX : JX X own cc nL ret F LL mc ms) (hK : KM D dA (jj_s X)) (hD : MD ad) (f : Nat) (hf : f < 46) (hfb : jm_fb f = 0) (h2 : f = 2 ∨ f = 3) (hlk : (Cond.fieldLink own ix (TX7 f).1 (TX7 f).2.1 (TX7 f).2.2.1) ∈ lw_all) (hfin : (TX7 f).2.2.2 = false) (hty : parseFieldDescriptor (TX7 f).2.2.1 = some .long) (d : decode cc pc = .ok (.putfield ix, 3)) (q : Nat) (hq : pc + 3 = q) (h : ∀ u2 : MS, u2 = jm_sl u 0 f v → JJ X (AM ad) Q nL (MW D dA ad u2) k n q lv st) : JJ X (AM ad) Q nL (MW D dA ad u) k n pc lv (.long v :: .ref (ad 0) :: st) := by
  subst hq
  exact fun H locs ls hP hS hh => jj_putW hX.1 hX.2.1 hX.2.2.2.2.1 in_X7 tyX7 tyX7_ok nmX7 hX.2.2.2.1 hK.kn hP.1 f hf (hX.2.2.2.2.1 _ hlk) (fun _ h9 => h9) hfin hty rfl rfl d (fun H1 e1 e2 e3 => h _ rfl H1 _ ls (jm_putl hD hP hfb h2 e1 e3) (hS.put e2 e3 ⟨0, by omega, rfl⟩) hh)
theorem jm_alen (hX : JX X own cc nL ret F LL mc ms) (hK : KM D dA (jj_s X)) (b : Nat) (hb0 : 0 < b) (hb : b < 23) {v : Int32} (hv : Int32.ofNat (jm_len b) = v) (d : decode cc pc = .ok (.arraylength, 1)) (q : Nat) (hq : pc + 1 = q) (h : JJ X A Q nL (MW D dA ad u) k n q lv (.int v :: st)) : JJ X A Q nL (MW D dA ad u) k n pc lv (.ref (ad b) :: st) := by
  subst hq
  subst hv
  exact fun H locs ls hP hS hh => W.alen (n := Int32.ofNat (jm_len b)) hX.1 hX.2.1 (hP.2 b hb0 hb) (hK.arr b _ _) (by rw [arrV_size]) rfl rfl d (h H locs ls hP hS hh)
theorem jm_iald (hX : JX X own cc nL ret F LL mc ms) (hK : KM D dA (jj_s X)) (b : Nat) (hb0 : 0 < b) (hb : b < 23) (ht : jm_ty b = .int) {i : Int32} (kk : Nat) (hkk : i.toNatClampNeg = kk) (hin : vp_in i (jm_len b)) (d : decode cc pc = .ok (.iaload, 1)) (q : Nat) (hq : pc + 1 = q) (h : JJ X A Q nL (MW D dA ad u) k n q lv (.int (jm_i u b kk) :: st)) : JJ X A Q nL (MW D dA ad u) k n pc lv (.int i :: .ref (ad b) :: st) := by
  subst hq
  subst hkk
  have h4 : b ≠ 4 := fun e => by subst e; cases ht
  have hlt : i.toNatClampNeg < jm_len b := Nat.not_le.mp fun q => hin (Or.inr q)
  refine fun H locs ls hP hS hh => W.iald hX.1 hX.2.1 (hP.2 b hb0 hb) (by rw [← ht]; exact hK.arr b _ _) (fun q => by cases q) (by rw [arrV_size]; exact hin) (v := .int (jm_i u b i.toNatClampNeg)) ?_ rfl rfl d (h H locs ls hP hS hh)
  rw [arrV_read _ _ hlt]
  simp [jm_el, jm_i, h4]
theorem jm_bald (hX : JX X own cc nL ret F LL mc ms) (hK : KM D dA (jj_s X)) (b : Nat) (hb0 : 0 < b) (hb : b < 23) (ht : jm_ty b = .byte) {i : Int32} (kk : Nat) (hkk : i.toNatClampNeg = kk) (hin : vp_in i (jm_len b)) (d : decode cc pc = .ok (.baload, 1)) (q : Nat) (hq : pc + 1 = q) (h : JJ X A Q nL (MW D dA ad u) k n q lv (.int (jm_i u b kk) :: st)) : JJ X A Q nL (MW D dA ad u) k n pc lv (.int i :: .ref (ad b) :: st) := by
  subst hq
  subst hkk
  have h4 : b ≠ 4 := fun e => by subst e; cases ht
  have hlt : i.toNatClampNeg < jm_len b := Nat.not_le.mp fun q => hin (Or.inr q)
  refine fun H locs ls hP hS hh => W.bald hX.1 hX.2.1 (hP.2 b hb0 hb) (by rw [← ht]; exact hK.arr b _ _) (fun q => by cases q) (by rw [arrV_size]; exact hin) (v := .int (jm_i u b i.toNatClampNeg)) ?_ rfl rfl d (h H locs ls hP hS hh)
  rw [arrV_read _ _ hlt]
  simp [jm_el, jm_i, h4]
theorem jm_lald (hX : JX X own cc nL ret F LL mc ms) (hK : KM D dA (jj_s X)) {i : Int32} (kk : Nat) (hkk : i.toNatClampNeg = kk) (hin : vp_in i 240) (d : decode cc pc = .ok (.laload, 1)) (q : Nat) (hq : pc + 1 = q) (h : JJ X A Q nL (MW D dA ad u) k n q lv (.long (jm_l u 4 kk) :: st)) : JJ X A Q nL (MW D dA ad u) k n pc lv (.int i :: .ref (ad 4) :: st) := by
  subst hq
  subst hkk
  have hlt : i.toNatClampNeg < jm_len 4 := Nat.not_le.mp fun q => hin (Or.inr q)
  refine fun H locs ls hP hS hh => W.lald hX.1 hX.2.1 (hP.2 4 (by omega) (by omega)) (hK.arr 4 _ _) (fun q => by cases q) (by rw [arrV_size]; exact hin) (v := .long (jm_l u 4 i.toNatClampNeg)) ?_ rfl rfl d (h H locs ls hP hS hh)
  rw [arrV_read _ _ hlt]
  simp [jm_el, jm_l]
theorem jm_iast (hX : JX X own cc nL ret F LL mc ms) (hK : KM D dA (jj_s X)) (hD : MD ad) (b : Nat) (hb0 : 0 < b) (hb : b < 23) (ht : jm_ty b = .int) {i x : Int32} (kk : Nat) (hkk : i.toNatClampNeg = kk) (hin : vp_in i (jm_len b)) (d : decode cc pc = .ok (.iastore, 1)) (q : Nat) (hq : pc + 1 = q) (h : ∀ u2 : MS, u2 = jm_s u b kk x → JJ X (AM ad) Q nL (MW D dA ad u2) k n q lv st) : JJ X (AM ad) Q nL (MW D dA ad u) k n pc lv (.int x :: .int i :: .ref (ad b) :: st) := by
  subst hq
  subst hkk
  have h4 : b ≠ 4 := fun e => by subst e; cases ht
  exact fun H locs ls hP hS hh => W.iast hX.1 hX.2.1 (hP.2 b hb0 hb) (by rw [← ht]; exact hK.arr b _ _) (fun q => by cases q) (by rw [arrV_size]; exact hin) rfl rfl d (fun H1 e1 z oq => h _ rfl H1 _ ls (jm_stor hD hP hb0 hb h4 (by rw [e1, arrV_store]) oq) (hS.put z oq ⟨b, hb, rfl⟩) hh)
theorem jm_bast (hX : JX X own cc nL ret F LL mc ms) (hK : KM D dA (jj_s X)) (hD : MD ad) (b : Nat) (hb0 : 0 < b) (hb : b < 23) (ht : jm_ty b = .byte) {i x : Int32} (kk : Nat) (hkk : i.toNatClampNeg = kk) (hin : vp_in i (jm_len b)) (d : decode cc pc = .ok (.bastore, 1)) (q : Nat) (hq : pc + 1 = q) (h : ∀ u2 : MS, u2 = jm_s u b kk x.toInt8.toInt32 → JJ X (AM ad) Q nL (MW D dA ad u2) k n q lv st) : JJ X (AM ad) Q nL (MW D dA ad u) k n pc lv (.int x :: .int i :: .ref (ad b) :: st) := by
  subst hq
  subst hkk
  have h4 : b ≠ 4 := fun e => by subst e; cases ht
  exact fun H locs ls hP hS hh => W.bast hX.1 hX.2.1 (hP.2 b hb0 hb) (by rw [← ht]; exact hK.arr b _ _) (fun q => by cases q) (by rw [arrV_size]; exact hin) rfl rfl d (fun H1 e1 z oq => h _ rfl H1 _ ls (jm_stor hD hP hb0 hb h4 (by rw [e1, arrV_store]; rfl) oq) (hS.put z oq ⟨b, hb, rfl⟩) hh)
theorem jm_last (hX : JX X own cc nL ret F LL mc ms) (hK : KM D dA (jj_s X)) (hD : MD ad) {i : Int32} {x : Int64} (kk : Nat) (hkk : i.toNatClampNeg = kk) (hin : vp_in i 240) (d : decode cc pc = .ok (.lastore, 1)) (q : Nat) (hq : pc + 1 = q) (h : ∀ u2 : MS, u2 = jm_sl u 4 kk x → JJ X (AM ad) Q nL (MW D dA ad u2) k n q lv st) : JJ X (AM ad) Q nL (MW D dA ad u) k n pc lv (.long x :: .int i :: .ref (ad 4) :: st) := by
  subst hq
  subst hkk
  exact fun H locs ls hP hS hh => W.last hX.1 hX.2.1 (hP.2 4 (by omega) (by omega)) (hK.arr 4 _ _) (fun q => by cases q) (by rw [arrV_size]; exact hin) rfl rfl d (fun H1 e1 z oq => h _ rfl H1 _ ls (jm_storl hD hP (by rw [e1, arrV_store]) oq) (hS.put z oq ⟨4, by omega, rfl⟩) hh)
end JM1
/-! contracts of the reference's methods, and their calls -/
def jm_Pc (D : va_G) (dA ad : Nat → Nat) (u : MS) (As : List Value) : Array Value → State → Prop := va_Pc (.ref (ad 0) :: As) (fun U => MW D dA ad u U.heap ∧ KM D dA U)
def jm_B (D : va_G) (dA ad : Nat → Nat) (u : MS) (t : State) : Prop := MW D dA ad u t.heap
theorem jm_hB {D : va_G} {dA ad : Nat → Nat} {u : MS} : ∀ (H : Heap) (t : State), MW D dA ad u H → t.heap = H → jm_B D dA ad u t := fun H t h e => by unfold jm_B; rw [e]; exact h
abbrev jm_rm (F LL : Nat) : Room := { frames := F, cells := 0, slots := 0, locals := LL }
theorem jm_start {l : Launch} {y : MethodName} {cc : ByteArray} {nL : Nat} {ret : Option FieldType} {F LL : Nat} {Qc : Array Value → State → Outcome → State → Prop} {D : va_G} {dA ad : Nat → Nat} {u : MS} (As : List Value) (lv : List (Nat × Value)) (hy : plainName y.cls = true) (hlen : (lg_sl (.ref (ad 0) :: As)).length ≤ nL) (hlv : lv_args 0 (.ref (ad 0) :: As) = lv)
    (body : ∀ X : JC, JX X y.cls cc nL ret F LL 0 0 → KM D dA (jj_s X) → JJ X (AM ad) (jj_Q X Qc 0 0 (AM ad)) nL (MW D dA ad u) 0 0 0 lv []) : Met l y (ws_ y cc nL ret) (jm_rm F LL) (jm_Pc D dA ad u As) Qc 0 0 (AM ad) := by
  refine Met.ofW (cc := cc) (maxL := nL) (ret := ret) hy rfl ?_
  intro p e s m args below meth c s₁ B hml hv
  obtain ⟨rfl, hP, hK⟩ := hv
  have hts := atoms_spec (ws := ws_ y cc nL ret) B.pre
  have hts2 : ∀ w ∈ lw_all, w.before _ s = true := fun w h => hts w (List.mem_cons_of_mem _ h)
  have hl := lv_entry (.ref (ad 0) :: As) (n := nL) hlen
  rw [lg_entry_eq]
  rw [hlv] at hl
  exact body (p, l, e, (headSpec (ws_ y cc nL ret) (jm_rm F LL)).room, s, m, _, below, meth, c) ⟨B.exec, B.bytes, hml, findClass_of_methodNamed B.named, hts2, B.notSynchronized, B.returns, rfl, rfl, rfl, rfl⟩ hK s.heap [] _ hP va_S.rf hl
section JM2
variable {X : JC} {Q : State → Prop} {nL : Nat} {k n pc : Nat} {lv : List (Nat × Value)} {st st0 : List Value} {own : String} {cc : ByteArray} {ret rt : Option FieldType} {F LL mc ms f9 l9 : Nat} {D : va_G} {dA ad : Nat → Nat} {u : MS} {y : MethodName} {bytes : ByteArray} {maxL ix na : Nat} {As : List Value}
theorem jm_va (hX : JX X own cc nL ret F LL mc ms) (hK : KM D dA (jj_s X)) {Qc : Array Value → State → Outcome → State → Prop} (hM : Met (jj_l X) y (ws_ y bytes maxL rt) (jm_rm f9 l9) (jm_Pc D dA ad u As) Qc 0 0 (AM ad)) (hlk : (Cond.methodLink own ix y) ∈ lw_all) (hin : (Cond.instanceMethod y) ∈ lw_all) (hsel : (Cond.selects RX7 y y) ∈ lw_all) (hini : (Cond.initialized RX7) ∈ lw_all) (hco : (Cond.code y bytes maxL rt) ∈ lw_all) (hd : y.cls = RX7 ∧ y.cls ≠ "java/lang/invoke/MethodHandle" ∧ y.cls ≠ "java/lang/invoke/VarHandle" ∧ (parseMethodDescriptor y.desc).map (fun d => d.parameters.length) = some na) (hn : As.length = na) (hst : st0 = As.reverse ++ .ref (ad 0) :: st) (hw : (st.map fun v => v.category).sum ≤ 8) (hF : f9 + 1 ≤ F) (hL : 8 + (maxL + 11) + l9 ≤ LL) (hk : k ≤ mc) (hk2 : n ≤ ms) (d : decode cc pc = .ok (.invokevirtual ix, 3)) (H : Heap) (locs : List Loc) (ls : Array Slot) (hP : MW D dA ad u H) (hh : lv_has ls nL lv) :
    va_Run X.1 X.2.1 X.2.2.1 X.2.2.2.1 X.2.2.2.2.1 X.2.2.2.2.2.1 X.2.2.2.2.2.2.1 X.2.2.2.2.2.2.2.1 X.2.2.2.2.2.2.2.2.1 X.2.2.2.2.2.2.2.2.2 H locs k n 0 0 (F0 (jj_m X) pc ls st0) st (Qc (Value.ref (ad 0) :: As).toArray) (AM ad) := by
  obtain ⟨h1, h2, h3, h4, h5, h6, h7, h8, h9, h10, h11⟩ := hX
  have hat : va_P D jmCl [(ad 0, .inr (0, (List.range 46).map (jm_fv ad u)))] H := by
    intro j q hj
    have hz : j < 1 := (List.getElem?_eq_some_iff.mp hj).1
    rw [show j = 0 by omega] at hj
    cases hj
    refine ⟨_, rfl, hP.1.to fun i hi => ?_⟩
    have hi : i < 46 := hi
    simp [vp_V, hi]
  refine va_runV ⟨h1, h2, h3, h4, h5⟩ hM (cwV (C := RX7) na h5 (lw_V hlk hin hsel hini hco) rfl rfl rfl hd ⟨by rw [h8]; exact hF, by rw [h9]; exact hL⟩) ⟨fun a U g mk q => ?_, va_recv hK hat (ci := 0) (q0 := 0) rfl rfl, fun U hU hW => ⟨rfl, by rw [hU]; exact hP, KM.moved hW.alike hK⟩⟩ rfl hn hh.1 hst (lv_room hw) d ⟨by rw [h10]; exact hk, by rw [h11]; exact hk2⟩
  obtain ⟨q0, qP, qK⟩ := q
  exact ⟨q0, qP, KM.moved (u := U) (U := U.calling g mk a) (Vm.Alike.refl U.vm) qK⟩
theorem jm_kept {H H1 : Heap} (hP : MW D dA ad u H) {A : Nat → Prop} (hA : ∀ b, b < 23 → ¬ A (ad b)) (hq : ∀ q : Nat, q < H.size → ¬ A q → H1[q]? = H[q]?) : MW D dA ad u H1 := hP.kept fun b hb => hq _ (hP.lt hb) (hA b hb)
end JM2
theorem jm_calli {X : JC} {Q : State → Prop} {nL : Nat} {k n pc : Nat} {lv : List (Nat × Value)} {st st0 : List Value} {own : String} {cc : ByteArray} {ret rt : Option FieldType} {F LL mc ms f9 l9 : Nat} {D : va_G} {dA ad : Nat → Nat} {u : MS} {y : MethodName} {bytes : ByteArray} {maxL ix na : Nat} {As : List Value} {post : Int32 → MS → Prop} (hX : JX X own cc nL ret F LL mc ms) (hK : KM D dA (jj_s X)) (hM : Met (jj_l X) y (ws_ y bytes maxL rt) (jm_rm f9 l9) (jm_Pc D dA ad u As) (va_Qi post (jm_B D dA ad) (AM ad)) 0 0 (AM ad)) (hlk : (Cond.methodLink own ix y) ∈ lw_all) (hin : (Cond.instanceMethod y) ∈ lw_all) (hsel : (Cond.selects RX7 y y) ∈ lw_all) (hini : (Cond.initialized RX7) ∈ lw_all) (hco : (Cond.code y bytes maxL rt) ∈ lw_all) (hd : y.cls = RX7 ∧ y.cls ≠ "java/lang/invoke/MethodHandle" ∧ y.cls ≠ "java/lang/invoke/VarHandle" ∧ (parseMethodDescriptor y.desc).map (fun d => d.parameters.length) = some na) (hn : As.length = na) (hst : st0 = As.reverse ++ .ref (ad 0) :: st) (hw : (st.map fun v => v.category).sum ≤ 8) (hF : f9 + 1 ≤ F) (hL : 8 + (maxL + 11) + l9 ≤ LL) (hk : k ≤ mc) (hk2 : n ≤ ms) (d : decode cc pc = .ok (.invokevirtual ix, 3)) (q : Nat) (hq : pc + 3 = q) (kk : ∀ (r : Int32) (u2 : MS), post r u2 → JJ X (AM ad) Q nL (MW D dA ad u2) k n q lv (.int r :: st)) : JJ X (AM ad) Q nL (MW D dA ad u) k n pc lv st0 := by
  subst hq
  exact fun H locs ls hP hS hh => va_calli (jm_va hX hK hM hlk hin hsel hini hco hd hn hst hw hF hL hk hk2 d H locs ls hP hh) hS (fun q _ h => h) (fun q h => h) (fun r u2 t H1 locs1 ht hvm hp hB hz1 hk1 hS1 => kk r u2 hp H1 locs1 ls (by unfold jm_B at hB; rw [← ht]; exact hB) hS1 hh)
theorem jm_callz {X : JC} {Q : State → Prop} {nL : Nat} {k n pc : Nat} {lv : List (Nat × Value)} {st st0 : List Value} {own : String} {cc : ByteArray} {ret rt : Option FieldType} {F LL mc ms f9 l9 : Nat} {D : va_G} {dA ad : Nat → Nat} {u : MS} {y : MethodName} {bytes : ByteArray} {maxL ix na : Nat} {As : List Value} {post : Int32 → MS → Prop} (hX : JX X own cc nL ret F LL mc ms) (hK : KM D dA (jj_s X)) (hM : Met (jj_l X) y (ws_ y bytes maxL rt) (jm_rm f9 l9) (jm_Pc D dA ad u As) (va_Qi (fun r u => post r u ∧ jj_z r) (jm_B D dA ad) (AM ad)) 0 0 (AM ad)) (hlk : (Cond.methodLink own ix y) ∈ lw_all) (hin : (Cond.instanceMethod y) ∈ lw_all) (hsel : (Cond.selects RX7 y y) ∈ lw_all) (hini : (Cond.initialized RX7) ∈ lw_all) (hco : (Cond.code y bytes maxL rt) ∈ lw_all) (hd : y.cls = RX7 ∧ y.cls ≠ "java/lang/invoke/MethodHandle" ∧ y.cls ≠ "java/lang/invoke/VarHandle" ∧ (parseMethodDescriptor y.desc).map (fun d => d.parameters.length) = some na) (hn : As.length = na) (hst : st0 = As.reverse ++ .ref (ad 0) :: st) (hw : (st.map fun v => v.category).sum ≤ 8) (hF : f9 + 1 ≤ F) (hL : 8 + (maxL + 11) + l9 ≤ LL) (hk : k ≤ mc) (hk2 : n ≤ ms) (d : decode cc pc = .ok (.invokevirtual ix, 3)) (q : Nat) (hq : pc + 3 = q) (kk : ∀ (r : Int32) (u2 : MS), jj_z r → post r u2 → JJ X (AM ad) Q nL (MW D dA ad u2) k n q lv (.int r :: st)) : JJ X (AM ad) Q nL (MW D dA ad u) k n pc lv st0 := by
  subst hq
  exact fun H locs ls hP hS hh => va_calli (jm_va hX hK hM hlk hin hsel hini hco hd hn hst hw hF hL hk hk2 d H locs ls hP hh) hS (fun q _ h => h) (fun q h => h) (fun r u2 t H1 locs1 ht hvm hp hB hz1 hk1 hS1 => kk r u2 hp.2 hp.1 H1 locs1 ls (by unfold jm_B at hB; rw [← ht]; exact hB) hS1 hh)
theorem jm_calll {X : JC} {Q : State → Prop} {nL : Nat} {k n pc : Nat} {lv : List (Nat × Value)} {st st0 : List Value} {own : String} {cc : ByteArray} {ret rt : Option FieldType} {F LL mc ms f9 l9 : Nat} {D : va_G} {dA ad : Nat → Nat} {u : MS} {y : MethodName} {bytes : ByteArray} {maxL ix na : Nat} {As : List Value} {post : Int64 → MS → Prop} (hX : JX X own cc nL ret F LL mc ms) (hK : KM D dA (jj_s X)) (hM : Met (jj_l X) y (ws_ y bytes maxL rt) (jm_rm f9 l9) (jm_Pc D dA ad u As) (va_Ql post (jm_B D dA ad) (AM ad)) 0 0 (AM ad)) (hlk : (Cond.methodLink own ix y) ∈ lw_all) (hin : (Cond.instanceMethod y) ∈ lw_all) (hsel : (Cond.selects RX7 y y) ∈ lw_all) (hini : (Cond.initialized RX7) ∈ lw_all) (hco : (Cond.code y bytes maxL rt) ∈ lw_all) (hd : y.cls = RX7 ∧ y.cls ≠ "java/lang/invoke/MethodHandle" ∧ y.cls ≠ "java/lang/invoke/VarHandle" ∧ (parseMethodDescriptor y.desc).map (fun d => d.parameters.length) = some na) (hn : As.length = na) (hst : st0 = As.reverse ++ .ref (ad 0) :: st) (hw : (st.map fun v => v.category).sum ≤ 8) (hF : f9 + 1 ≤ F) (hL : 8 + (maxL + 11) + l9 ≤ LL) (hk : k ≤ mc) (hk2 : n ≤ ms) (d : decode cc pc = .ok (.invokevirtual ix, 3)) (q : Nat) (hq : pc + 3 = q) (kk : ∀ (r : Int64) (u2 : MS), post r u2 → JJ X (AM ad) Q nL (MW D dA ad u2) k n q lv (.long r :: st)) : JJ X (AM ad) Q nL (MW D dA ad u) k n pc lv st0 := by
  subst hq
  exact fun H locs ls hP hS hh => va_calll (jm_va hX hK hM hlk hin hsel hini hco hd hn hst hw hF hL hk hk2 d H locs ls hP hh) hS (fun q _ h => h) (fun q h => h) (fun r u2 t H1 locs1 ht hvm hp hB hz1 hk1 hS1 => kk r u2 hp H1 locs1 ls (by unfold jm_B at hB; rw [← ht]; exact hB) hS1 hh)
theorem jm_callv {X : JC} {Q : State → Prop} {nL : Nat} {k n pc : Nat} {lv : List (Nat × Value)} {st st0 : List Value} {own : String} {cc : ByteArray} {ret rt : Option FieldType} {F LL mc ms f9 l9 : Nat} {D : va_G} {dA ad : Nat → Nat} {u : MS} {y : MethodName} {bytes : ByteArray} {maxL ix na : Nat} {As : List Value} {post : MS → Prop} (hX : JX X own cc nL ret F LL mc ms) (hK : KM D dA (jj_s X)) (hM : Met (jj_l X) y (ws_ y bytes maxL rt) (jm_rm f9 l9) (jm_Pc D dA ad u As) (va_Qv post (jm_B D dA ad) (AM ad)) 0 0 (AM ad)) (hlk : (Cond.methodLink own ix y) ∈ lw_all) (hin : (Cond.instanceMethod y) ∈ lw_all) (hsel : (Cond.selects RX7 y y) ∈ lw_all) (hini : (Cond.initialized RX7) ∈ lw_all) (hco : (Cond.code y bytes maxL rt) ∈ lw_all) (hd : y.cls = RX7 ∧ y.cls ≠ "java/lang/invoke/MethodHandle" ∧ y.cls ≠ "java/lang/invoke/VarHandle" ∧ (parseMethodDescriptor y.desc).map (fun d => d.parameters.length) = some na) (hn : As.length = na) (hst : st0 = As.reverse ++ .ref (ad 0) :: st) (hw : (st.map fun v => v.category).sum ≤ 8) (hF : f9 + 1 ≤ F) (hL : 8 + (maxL + 11) + l9 ≤ LL) (hk : k ≤ mc) (hk2 : n ≤ ms) (d : decode cc pc = .ok (.invokevirtual ix, 3)) (q : Nat) (hq : pc + 3 = q) (kk : ∀ u2 : MS, post u2 → JJ X (AM ad) Q nL (MW D dA ad u2) k n q lv st) : JJ X (AM ad) Q nL (MW D dA ad u) k n pc lv st0 := by
  subst hq
  exact fun H locs ls hP hS hh => va_callv (jm_va hX hK hM hlk hin hsel hini hco hd hn hst hw hF hL hk hk2 d H locs ls hP hh) hS (fun q _ h => h) (fun q h => h) (fun u2 t H1 locs1 ht hvm hp hB hz1 hk1 hS1 => kk u2 hp H1 locs1 ls (by unfold jm_B at hB; rw [← ht]; exact hB) hS1 hh)
/-! static methods of the reference that ask nothing of the heap -/
def js_Pc (As : List Value) : Array Value → State → Prop := va_Pc As (fun _ => True)
def js_B (_ : Unit) (_ : State) : Prop := True
def js_A : Nat → Prop := fun _ => False
def js_P (_ : Heap) : Prop := True
theorem js_start {l : Launch} {y : MethodName} {cc : ByteArray} {nL : Nat} {ret : Option FieldType} {F LL : Nat} {Qc : Array Value → State → Outcome → State → Prop} (As : List Value) (lv : List (Nat × Value)) (hy : plainName y.cls = true) (hlen : (lg_sl As).length ≤ nL) (hlv : lv_args 0 As = lv)
    (body : ∀ X : JC, JX X y.cls cc nL ret F LL 0 0 → JJ X js_A (jj_Q X Qc 0 0 js_A) nL js_P 0 0 0 lv []) : Met l y (ws_ y cc nL ret) (jm_rm F LL) (js_Pc As) Qc 0 0 js_A := by
  refine Met.ofW (cc := cc) (maxL := nL) (ret := ret) hy rfl ?_
  intro p e s m args below meth c s₁ B hml hv
  obtain ⟨rfl, -⟩ := hv
  have hts := atoms_spec (ws := ws_ y cc nL ret) B.pre
  have hts2 : ∀ w ∈ lw_all, w.before _ s = true := fun w h => hts w (List.mem_cons_of_mem _ h)
  have hl := lv_entry As (n := nL) hlen
  rw [lg_entry_eq]
  rw [hlv] at hl
  exact body (p, l, e, (headSpec (ws_ y cc nL ret) (jm_rm F LL)).room, s, m, _, below, meth, c) ⟨B.exec, B.bytes, hml, findClass_of_methodNamed B.named, hts2, B.notSynchronized, B.returns, rfl, rfl, rfl, rfl⟩ s.heap [] _ trivial va_S.rf hl
theorem js_hB : ∀ (H : Heap) (t : State), js_P H → t.heap = H → js_B () t := fun _ _ _ _ => trivial
/-- a picture that no foreign cell's change touches -/
def jj_Keeps (P : Heap → Prop) : Prop := ∀ H H1 : Heap, P H → (∀ q : Nat, q < H.size → H1[q]? = H[q]?) → H.size ≤ H1.size → P H1
theorem js_keepP : jj_Keeps js_P := fun _ _ _ _ _ => trivial
theorem MW.keeps {D : va_G} {dA ad : Nat → Nat} {u : MS} : jj_Keeps (MW D dA ad u) := fun H H1 h hq _ => h.kept fun b hb => hq _ (h.lt hb)
theorem js_calli {X : JC} {A : Nat → Prop} {Q : State → Prop} {P : Heap → Prop} {nL : Nat} {k n pc : Nat} {lv : List (Nat × Value)} {st st0 : List Value} {own : String} {cc : ByteArray} {ret rt : Option FieldType} {F LL mc ms f9 l9 : Nat} {y : MethodName} {bytes : ByteArray} {maxL ix na : Nat} {As : List Value} {post : Int32 → Prop} (hX : JX X own cc nL ret F LL mc ms) (hKP : jj_Keeps P) (hM : Met (jj_l X) y (ws_ y bytes maxL rt) (jm_rm f9 l9) (js_Pc As) (va_Qi (fun r (_ : Unit) => post r) js_B js_A) 0 0 js_A) (hlk : (Cond.methodLink own ix y) ∈ lw_all) (hsta : (Cond.static y) ∈ lw_all) (hini : (Cond.initialized y.cls) ∈ lw_all) (hco : (Cond.code y bytes maxL rt) ∈ lw_all) (hd : y.cls ≠ "java/lang/invoke/MethodHandle" ∧ y.cls ≠ "java/lang/invoke/VarHandle" ∧ (parseMethodDescriptor y.desc).map (fun d => d.parameters.length) = some na) (hn : As.length = na) (hst : st0 = As.reverse ++ st) (hw : (st.map fun v => v.category).sum ≤ 8) (hF : f9 + 1 ≤ F) (hL : 8 + (maxL + 11) + l9 ≤ LL) (hk : k ≤ mc) (hk2 : n ≤ ms) (d : decode cc pc = .ok (.invokestatic ix, 3)) (q : Nat) (hq : pc + 3 = q) (kk : ∀ r : Int32, post r → JJ X A Q nL P k n q lv (.int r :: st)) : JJ X A Q nL P k n pc lv st0 := by
  subst hq
  obtain ⟨h1, h2, h3, h4, h5, h6, h7, h8, h9, h10, h11⟩ := hX
  refine fun H locs ls hP hS hh => va_calli (va_runS ⟨h1, h2, h3, h4, h5⟩ hM (va_cwS na h5 (lw_S hlk hsta hini hco) rfl rfl rfl hd ⟨by rw [h8]; exact hF, by rw [h9]; exact hL⟩) ⟨fun a U g mk q => ⟨q.1, trivial⟩, fun U hU hW => ⟨rfl, trivial⟩⟩ rfl hn hh.1 hst (lv_room hw) d ⟨by rw [h10]; exact hk, by rw [h11]; exact hk2⟩) hS (fun q _ h => h.elim) (fun q h => h.elim) (fun r u2 t H1 locs1 ht hvm hp hB hz1 hk1 hS1 => kk r hp H1 locs1 ls (hKP H H1 hP (fun q hq => hk1 q hq (fun h => h)) hz1) hS1 hh)
theorem js_callz {X : JC} {A : Nat → Prop} {Q : State → Prop} {P : Heap → Prop} {nL : Nat} {k n pc : Nat} {lv : List (Nat × Value)} {st st0 : List Value} {own : String} {cc : ByteArray} {ret rt : Option FieldType} {F LL mc ms f9 l9 : Nat} {y : MethodName} {bytes : ByteArray} {maxL ix na : Nat} {As : List Value} {post : Int32 → Prop} (hX : JX X own cc nL ret F LL mc ms) (hKP : jj_Keeps P) (hM : Met (jj_l X) y (ws_ y bytes maxL rt) (jm_rm f9 l9) (js_Pc As) (va_Qi (fun r (_ : Unit) => post r ∧ jj_z r) js_B js_A) 0 0 js_A) (hlk : (Cond.methodLink own ix y) ∈ lw_all) (hsta : (Cond.static y) ∈ lw_all) (hini : (Cond.initialized y.cls) ∈ lw_all) (hco : (Cond.code y bytes maxL rt) ∈ lw_all) (hd : y.cls ≠ "java/lang/invoke/MethodHandle" ∧ y.cls ≠ "java/lang/invoke/VarHandle" ∧ (parseMethodDescriptor y.desc).map (fun d => d.parameters.length) = some na) (hn : As.length = na) (hst : st0 = As.reverse ++ st) (hw : (st.map fun v => v.category).sum ≤ 8) (hF : f9 + 1 ≤ F) (hL : 8 + (maxL + 11) + l9 ≤ LL) (hk : k ≤ mc) (hk2 : n ≤ ms) (d : decode cc pc = .ok (.invokestatic ix, 3)) (q : Nat) (hq : pc + 3 = q) (kk : ∀ r : Int32, jj_z r → post r → JJ X A Q nL P k n q lv (.int r :: st)) : JJ X A Q nL P k n pc lv st0 := by
  subst hq
  obtain ⟨h1, h2, h3, h4, h5, h6, h7, h8, h9, h10, h11⟩ := hX
  refine fun H locs ls hP hS hh => va_calli (va_runS ⟨h1, h2, h3, h4, h5⟩ hM (va_cwS na h5 (lw_S hlk hsta hini hco) rfl rfl rfl hd ⟨by rw [h8]; exact hF, by rw [h9]; exact hL⟩) ⟨fun a U g mk q => ⟨q.1, trivial⟩, fun U hU hW => ⟨rfl, trivial⟩⟩ rfl hn hh.1 hst (lv_room hw) d ⟨by rw [h10]; exact hk, by rw [h11]; exact hk2⟩) hS (fun q _ h => h.elim) (fun q h => h.elim) (fun r u2 t H1 locs1 ht hvm hp hB hz1 hk1 hS1 => kk r hp.2 hp.1 H1 locs1 ls (hKP H H1 hP (fun q hq => hk1 q hq (fun h => h)) hz1) hS1 hh)
theorem js_calll {X : JC} {A : Nat → Prop} {Q : State → Prop} {P : Heap → Prop} {nL : Nat} {k n pc : Nat} {lv : List (Nat × Value)} {st st0 : List Value} {own : String} {cc : ByteArray} {ret rt : Option FieldType} {F LL mc ms f9 l9 : Nat} {y : MethodName} {bytes : ByteArray} {maxL ix na : Nat} {As : List Value} {post : Int64 → Prop} (hX : JX X own cc nL ret F LL mc ms) (hKP : jj_Keeps P) (hM : Met (jj_l X) y (ws_ y bytes maxL rt) (jm_rm f9 l9) (js_Pc As) (va_Ql (fun r (_ : Unit) => post r) js_B js_A) 0 0 js_A) (hlk : (Cond.methodLink own ix y) ∈ lw_all) (hsta : (Cond.static y) ∈ lw_all) (hini : (Cond.initialized y.cls) ∈ lw_all) (hco : (Cond.code y bytes maxL rt) ∈ lw_all) (hd : y.cls ≠ "java/lang/invoke/MethodHandle" ∧ y.cls ≠ "java/lang/invoke/VarHandle" ∧ (parseMethodDescriptor y.desc).map (fun d => d.parameters.length) = some na) (hn : As.length = na) (hst : st0 = As.reverse ++ st) (hw : (st.map fun v => v.category).sum ≤ 8) (hF : f9 + 1 ≤ F) (hL : 8 + (maxL + 11) + l9 ≤ LL) (hk : k ≤ mc) (hk2 : n ≤ ms) (d : decode cc pc = .ok (.invokestatic ix, 3)) (q : Nat) (hq : pc + 3 = q) (kk : ∀ r : Int64, post r → JJ X A Q nL P k n q lv (.long r :: st)) : JJ X A Q nL P k n pc lv st0 := by
  subst hq
  obtain ⟨h1, h2, h3, h4, h5, h6, h7, h8, h9, h10, h11⟩ := hX
  refine fun H locs ls hP hS hh => va_calll (va_runS ⟨h1, h2, h3, h4, h5⟩ hM (va_cwS na h5 (lw_S hlk hsta hini hco) rfl rfl rfl hd ⟨by rw [h8]; exact hF, by rw [h9]; exact hL⟩) ⟨fun a U g mk q => ⟨q.1, trivial⟩, fun U hU hW => ⟨rfl, trivial⟩⟩ rfl hn hh.1 hst (lv_room hw) d ⟨by rw [h10]; exact hk, by rw [h11]; exact hk2⟩) hS (fun q _ h => h.elim) (fun q h => h.elim) (fun r u2 t H1 locs1 ht hvm hp hB hz1 hk1 hS1 => kk r hp H1 locs1 ls (hKP H H1 hP (fun q hq => hk1 q hq (fun h => h)) hz1) hS1 hh)
