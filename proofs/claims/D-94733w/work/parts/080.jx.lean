/-! THE TYPED MEMORY: K a = (1, c): an object of the c-th class; (t + 2, n): an array of n elements of the t-th type; (0, _): nothing of ours -/
set_option linter.unusedVariables false
abbrev XS : Type := (Nat → Nat → Int32) × (Nat → Nat → Int64) × (Nat → Nat → Option Nat)
abbrev XK : Type := Nat → Nat × Nat
def xi (u : XS) (a j : Nat) : Int32 := u.1 a j
def xl (u : XS) (a j : Nat) : Int64 := u.2.1 a j
def xr (u : XS) (a j : Nat) : Option Nat := u.2.2 a j
def xsi (u : XS) (a j : Nat) (v : Int32) : XS := (fun b k => if b = a ∧ k = j then v else u.1 b k, u.2.1, u.2.2)
def xsl (u : XS) (a j : Nat) (v : Int64) : XS := (u.1, fun b k => if b = a ∧ k = j then v else u.2.1 b k, u.2.2)
def xsr (u : XS) (a j : Nat) (v : Option Nat) : XS := (u.1, u.2.1, fun b k => if b = a ∧ k = j then v else u.2.2 b k)
/-- all that stands at an address: nothing yet -/
def xz (u : XS) (a : Nat) : XS := (fun b k => if b = a then 0 else u.1 b k, fun b k => if b = a then 0 else u.2.1 b k, fun b k => if b = a then none else u.2.2 b k)
def xup (K : XK) (a : Nat) (v : Nat × Nat) : XK := fun b => if b = a then v else K b
def jx_cl : List vw_C := [(RX0, TX0, 27), (RX1, TX1, 1), (RX2, TX2, 8), (RX3, TX3, 7), (RX4, TX4, 3), (RX5, TX5, 7), (RX6, TX6, 22), (RX7, TX7, 46), (RX8, TX8, 8), (RX10, TX10, 2), (RX10, TX10, 2), (RX11, TX11, 2), (RX12, TX12, 2), (RX13, TX13, 2), (RX14, TX14, 2), (RX15, TX15, 13)]
def jx_fts : List (List Nat) := [[2, 2, 2, 0, 0, 0, 2, 0, 1, 1, 2, 2, 0, 2, 2, 2, 2, 2, 2, 0, 0, 2, 2, 2, 2, 2, 0], [2], [2, 2, 2, 2, 2, 0, 0, 0], [2, 2, 2, 2, 2, 0, 0], [2, 0, 2], [2, 0, 0, 0, 0, 0, 0], [2, 0, 2, 0, 0, 0, 0, 0, 2, 2, 2, 2, 2, 2, 2, 2, 2, 0, 0, 0, 2, 2], [2, 0, 1, 1, 2, 2, 2, 2, 2, 0, 0, 0, 0, 0, 0, 0, 0, 0, 0, 0, 0, 0, 2, 2, 2, 2, 2, 0, 0, 0, 2, 2, 2, 2, 2, 2, 0, 0, 2, 2, 2, 0, 0, 2, 2, 0], [0, 0, 0, 0, 0, 0, 0, 2], [2, 2], [2, 2], [2, 2], [2, 2], [2, 2], [2, 2], [2, 2, 2, 2, 2, 2, 2, 2, 2, 2, 0, 0, 0]]
def jx_ft (c k : Nat) : Nat := ((jx_fts[c]?).getD [])[k]?.getD 0
def jx_tt : List FieldType := [.int, .byte, .short, .long, .boolean, .object "RaisedPress$Rule", .object "RaisedPress$House", .object "RaisedPress$Tray"]
def jx_fv (u : XS) (c a k : Nat) : Value := if jx_ft c k = 0 then .int (u.1 a k) else if jx_ft c k = 1 then .long (u.2.1 a k) else va_rf (u.2.2 a k)
def jx_el (u : XS) (t a k : Nat) : Value := if t = 3 then .long (u.2.1 a k) else if 5 ≤ t then va_rf (u.2.2 a k) else .int (u.1 a k)
abbrev jx_tys (dA : Nat → ClassId) : List (ClassId × FieldType) := [(dA 0, .int), (dA 1, .byte), (dA 2, .short), (dA 3, .long), (dA 4, .boolean), (dA 5, .object "RaisedPress$Rule"), (dA 6, .object "RaisedPress$House"), (dA 7, .object "RaisedPress$Tray")]
def KX (D : va_G) (dA : Nat → ClassId) (U : State) : Prop := va_K D jx_cl (jx_tys dA) U
theorem KX.moved {D : va_G} {dA : Nat → ClassId} {u U : State} (hvm : u.vm.Alike U.vm) (h : KX D dA u) : KX D dA U := va_K.moved hvm h
def XW (D : va_G) (dA : Nat → Nat) (K : XK) (u : XS) (H : Heap) : Prop :=
  (∀ a c, K a = (1, c) → ∃ r : vw_C, jx_cl[c]? = some r ∧ t_OB a (D.1 c) r.2.2 (D.2 c) H (jx_fv u c a)) ∧
  (∀ a t n, K a = (t + 2, n) → t < 8 ∧ H[a]? = some (arrV (dA t) n (jx_el u t a))) ∧
  (∀ a n, K a = (3, n) → ∀ j, fits .byte (.int (u.1 a j)) = true) ∧
  (∀ a n, K a = (4, n) → ∀ j, fits .short (.int (u.1 a j)) = true)
def XP (D : va_G) (dA : Nat → Nat) (A : Nat → Prop) (K : XK) (u : XS) (H : Heap) : Prop := XW D dA K u H ∧ ∀ a, (K a).1 ≠ 0 → A a
def xcp (u : XS) (a0 sp a1 dp n : Nat) : XS := (fun b k => if b = a1 ∧ dp ≤ k ∧ k < dp + n then u.1 a0 (sp + (k - dp)) else u.1 b k, u.2.1, u.2.2)
def xcpl (u : XS) (a0 sp a1 dp n : Nat) : XS := (u.1, fun b k => if b = a1 ∧ dp ≤ k ∧ k < dp + n then u.2.1 a0 (sp + (k - dp)) else u.2.1 b k, u.2.2)
theorem XW.kept {D : va_G} {dA : Nat → Nat} {K : XK} {u : XS} {H H1 : Heap} (h : XW D dA K u H) (hq : ∀ a, (K a).1 ≠ 0 → H1[a]? = H[a]?) : XW D dA K u H1 := by
  refine ⟨fun a c hk => ?_, fun a t n hk => ?_, h.2.2⟩
  · obtain ⟨r, h1, h2⟩ := h.1 a c hk
    exact ⟨r, h1, h2.kept (hq a (by rw [hk]; simp))⟩
  · obtain ⟨h1, h2⟩ := h.2.1 a t n hk
    exact ⟨h1, (hq a (by rw [hk]; simp)).trans h2⟩
theorem XW.lt {D : va_G} {dA : Nat → Nat} {K : XK} {u : XS} {H : Heap} (h : XW D dA K u H) {a : Nat} (hk : (K a).1 ≠ 0) : a < H.size := by
  obtain ⟨t, n, e⟩ : ∃ t n, K a = (t, n) := ⟨_, _, rfl⟩
  match t, e with
  | 0, e => exact absurd (by rw [e]) hk
  | 1, e =>
    obtain ⟨r, -, cell, q, -⟩ := h.1 a n e
    exact (Array.getElem?_eq_some_iff.mp q).1
  | t + 2, e => exact (Array.getElem?_eq_some_iff.mp (h.2.1 a t n e).2).1
theorem XW.fresh {D : va_G} {dA : Nat → Nat} {K : XK} {u : XS} {H : Heap} (h : XW D dA K u H) {a : Nat} (ha : H.size ≤ a) : (K a).1 = 0 := by
  by_cases hk : (K a).1 = 0
  · exact hk
  · exact absurd (h.lt hk) (by omega)
/-- off an address -/
def XG (u u2 : XS) (a : Nat) : Prop := ∀ b, b ≠ a → ∀ k, u2.1 b k = u.1 b k ∧ u2.2.1 b k = u.2.1 b k ∧ u2.2.2 b k = u.2.2 b k
theorem XG.fv {u u2 : XS} {a : Nat} (h : XG u u2 a) {b c : Nat} (hb : b ≠ a) : ∀ k, jx_fv u c b k = jx_fv u2 c b k := by
  intro k
  obtain ⟨h1, h2, h3⟩ := h b hb k
  simp only [jx_fv, h1, h2, h3]
theorem XG.el {u u2 : XS} {a : Nat} (h : XG u u2 a) {b t : Nat} (hb : b ≠ a) : jx_el u2 t b = jx_el u t b := by
  funext k
  obtain ⟨h1, h2, h3⟩ := h b hb k
  simp only [jx_el, h1, h2, h3]
theorem XW.upd {D : va_G} {dA : Nat → Nat} {K : XK} {u u2 : XS} {H H1 : Heap} (h : XW D dA K u H) {a : Nat} (ha : XG u u2 a) (oq : ∀ q : Nat, q ≠ a → H1[q]? = H[q]?)
    (hob : ∀ c, K a = (1, c) → ∃ r : vw_C, jx_cl[c]? = some r ∧ t_OB a (D.1 c) r.2.2 (D.2 c) H1 (jx_fv u2 c a)) (har : ∀ t n, K a = (t + 2, n) → H1[a]? = some (arrV (dA t) n (jx_el u2 t a)))
    (hby : ∀ n, K a = (3, n) → ∀ j, fits .byte (.int (u2.1 a j)) = true) (hsh : ∀ n, K a = (4, n) → ∀ j, fits .short (.int (u2.1 a j)) = true) : XW D dA K u2 H1 := by
  refine ⟨fun b c hk => ?_, fun b t n hk => ?_, fun b n hk j => ?_, fun b n hk j => ?_⟩
  · by_cases hb : b = a
    · subst hb; exact hob c hk
    · obtain ⟨r, h1, h2⟩ := h.1 b c hk
      exact ⟨r, h1, (h2.kept (oq b hb)).to fun k _ => ha.fv hb k⟩
  · by_cases hb : b = a
    · subst hb; exact ⟨(h.2.1 b t n hk).1, har t n hk⟩
    · rw [oq b hb, ha.el hb]; exact h.2.1 b t n hk
  · by_cases hb : b = a
    · subst hb; exact hby n hk j
    · rw [(ha b hb j).1]; exact h.2.2.1 b n hk j
  · by_cases hb : b = a
    · subst hb; exact hsh n hk j
    · rw [(ha b hb j).1]; exact h.2.2.2 b n hk j
theorem xg_i {u : XS} {a j : Nat} {v : Int32} : XG u (xsi u a j v) a := fun b hb k => ⟨by simp [xsi, hb], rfl, rfl⟩
theorem xg_l {u : XS} {a j : Nat} {v : Int64} : XG u (xsl u a j v) a := fun b hb k => ⟨rfl, by simp [xsl, hb], rfl⟩
theorem xg_r {u : XS} {a j : Nat} {v : Option Nat} : XG u (xsr u a j v) a := fun b hb k => ⟨rfl, rfl, by simp [xsr, hb]⟩
theorem xg_z {u : XS} {a : Nat} : XG u (xz u a) a := fun b hb k => ⟨by simp [xz, hb], by simp [xz, hb], by simp [xz, hb]⟩
theorem XW.puti {D : va_G} {dA : Nat → Nat} {K : XK} {u : XS} {H H1 : Heap} (h : XW D dA K u H) {a c k : Nat} {v : Int32} {r : vw_C} (h1 : K a = (1, c)) (hr : jx_cl[c]? = some r) (hf : jx_ft c k = 0) (hO : t_OB a (D.1 c) r.2.2 (D.2 c) H1 (updV (jx_fv u c a) k (.int v))) (oq : ∀ q : Nat, q ≠ a → H1[q]? = H[q]?) : XW D dA K (xsi u a k v) H1 := by
  refine h.upd xg_i oq (fun c2 e => ?_) (fun t n e => ?_) (fun n e => ?_) (fun n e => ?_)
  · rw [h1] at e; cases e
    refine ⟨r, hr, hO.to fun j _ => ?_⟩
    by_cases hj : j = k
    · subst hj; simp [updV, jx_fv, hf, xsi]
    · simp [updV, jx_fv, hj, xsi]
  · rw [h1] at e; simp at e
  · rw [h1] at e; simp at e
  · rw [h1] at e; simp at e
theorem XW.putl {D : va_G} {dA : Nat → Nat} {K : XK} {u : XS} {H H1 : Heap} (h : XW D dA K u H) {a c k : Nat} {v : Int64} {r : vw_C} (h1 : K a = (1, c)) (hr : jx_cl[c]? = some r) (hf : jx_ft c k = 1) (hO : t_OB a (D.1 c) r.2.2 (D.2 c) H1 (updV (jx_fv u c a) k (.long v))) (oq : ∀ q : Nat, q ≠ a → H1[q]? = H[q]?) : XW D dA K (xsl u a k v) H1 := by
  refine h.upd xg_l oq (fun c2 e => ?_) (fun t n e => ?_) (fun n e => ?_) (fun n e => ?_)
  · rw [h1] at e; cases e
    refine ⟨r, hr, hO.to fun j _ => ?_⟩
    by_cases hj : j = k
    · subst hj; simp [updV, jx_fv, hf, xsl]
    · simp [updV, jx_fv, hj, xsl]
  · rw [h1] at e; simp at e
  · rw [h1] at e; simp at e
  · rw [h1] at e; simp at e
theorem XW.putr {D : va_G} {dA : Nat → Nat} {K : XK} {u : XS} {H H1 : Heap} (h : XW D dA K u H) {a c k : Nat} {v : Option Nat} {r : vw_C} (h1 : K a = (1, c)) (hr : jx_cl[c]? = some r) (hf : jx_ft c k = 2) (hO : t_OB a (D.1 c) r.2.2 (D.2 c) H1 (updV (jx_fv u c a) k (va_rf v))) (oq : ∀ q : Nat, q ≠ a → H1[q]? = H[q]?) : XW D dA K (xsr u a k v) H1 := by
  refine h.upd xg_r oq (fun c2 e => ?_) (fun t n e => ?_) (fun n e => ?_) (fun n e => ?_)
  · rw [h1] at e; cases e
    refine ⟨r, hr, hO.to fun j _ => ?_⟩
    by_cases hj : j = k
    · subst hj; simp [updV, jx_fv, hf, xsr]
    · simp [updV, jx_fv, hj, xsr]
  · rw [h1] at e; simp at e
  · rw [h1] at e; simp at e
  · rw [h1] at e; simp at e
theorem XW.sti {D : va_G} {dA : Nat → Nat} {K : XK} {u : XS} {H H1 : Heap} (h : XW D dA K u H) {a t n k : Nat} {v : Int32} (h1 : K a = (t + 2, n)) (ht : t ≠ 3 ∧ t < 5) (hb : t = 1 → fits .byte (.int v) = true) (hb2 : t = 2 → fits .short (.int v) = true) (e1 : H1[a]? = some (arrV (dA t) n (updV (jx_el u t a) k (.int v)))) (oq : ∀ q : Nat, q ≠ a → H1[q]? = H[q]?) : XW D dA K (xsi u a k v) H1 := by
  refine h.upd xg_i oq (fun c2 e => ?_) (fun t2 n2 e => ?_) (fun n2 e j => ?_) (fun n2 e j => ?_)
  · rw [h1] at e; simp at e
  · rw [h1] at e
    obtain ⟨e2, e3⟩ := Prod.mk.inj e
    have e4 : t2 = t := by omega
    subst e4; subst e3
    rw [e1]
    congr 2
    funext j
    by_cases hj : j = k
    · subst hj; simp [updV, jx_el, xsi, ht.1, show ¬ 5 ≤ t2 by omega]
    · simp [updV, jx_el, xsi, hj]
  · rw [h1] at e
    obtain ⟨e2, e3⟩ := Prod.mk.inj e
    by_cases hj : j = k
    · subst hj; simp only [xsi, and_self, if_true]; exact hb (by omega)
    · have e9 : (xsi u a k v).1 a j = u.1 a j := by simp [xsi, hj]
      rw [e9]; exact h.2.2.1 a n (by rw [h1, show t = 1 by omega]) j
  · rw [h1] at e
    obtain ⟨e2, e3⟩ := Prod.mk.inj e
    by_cases hj : j = k
    · subst hj; simp only [xsi, and_self, if_true]; exact hb2 (by omega)
    · have e9 : (xsi u a k v).1 a j = u.1 a j := by simp [xsi, hj]
      rw [e9]; exact h.2.2.2 a n (by rw [h1, show t = 2 by omega]) j
theorem XW.stl {D : va_G} {dA : Nat → Nat} {K : XK} {u : XS} {H H1 : Heap} (h : XW D dA K u H) {a n k : Nat} {v : Int64} (h1 : K a = (5, n)) (e1 : H1[a]? = some (arrV (dA 3) n (updV (jx_el u 3 a) k (.long v)))) (oq : ∀ q : Nat, q ≠ a → H1[q]? = H[q]?) : XW D dA K (xsl u a k v) H1 := by
  refine h.upd xg_l oq (fun c2 e => ?_) (fun t2 n2 e => ?_) (fun n2 e j => ?_) (fun n2 e j => ?_)
  · rw [h1] at e; simp at e
  · rw [h1] at e
    obtain ⟨e2, e3⟩ := Prod.mk.inj e
    have e4 : t2 = 3 := by omega
    subst e4; subst e3
    rw [e1]
    congr 2
    funext j
    by_cases hj : j = k
    · subst hj; simp [updV, jx_el, xsl]
    · simp [updV, jx_el, xsl, hj]
  · rw [h1] at e; simp at e
  · rw [h1] at e; simp at e
theorem XW.str {D : va_G} {dA : Nat → Nat} {K : XK} {u : XS} {H H1 : Heap} (h : XW D dA K u H) {a t n k : Nat} {v : Option Nat} (h1 : K a = (t + 2, n)) (ht : 5 ≤ t) (e1 : H1[a]? = some (arrV (dA t) n (updV (jx_el u t a) k (va_rf v)))) (oq : ∀ q : Nat, q ≠ a → H1[q]? = H[q]?) : XW D dA K (xsr u a k v) H1 := by
  refine h.upd xg_r oq (fun c2 e => ?_) (fun t2 n2 e => ?_) (fun n2 e j => ?_) (fun n2 e j => ?_)
  · rw [h1] at e; simp at e
  · rw [h1] at e
    obtain ⟨e2, e3⟩ := Prod.mk.inj e
    have e4 : t2 = t := by omega
    subst e4; subst e3
    rw [e1]
    congr 2
    funext j
    by_cases hj : j = k
    · subst hj; simp [updV, jx_el, xsr, show ¬ t2 = 3 by omega, ht]
    · simp [updV, jx_el, xsr, hj]
  · rw [h1] at e
    obtain ⟨e2, e3⟩ := Prod.mk.inj e
    omega
  · rw [h1] at e
    obtain ⟨e2, e3⟩ := Prod.mk.inj e
    omega
/-- a new cell -/
theorem XW.new {D : va_G} {dA : Nat → Nat} {K : XK} {u : XS} {H H1 : Heap} (h : XW D dA K u H) (v : Nat × Nat) (o1 : ∀ q, q < H.size → H1[q]? = H[q]?)
    (hob : ∀ c, v = (1, c) → ∃ r : vw_C, jx_cl[c]? = some r ∧ t_OB H.size (D.1 c) r.2.2 (D.2 c) H1 (jx_fv (xz u H.size) c H.size)) (har : ∀ t n, v = (t + 2, n) → t < 8 ∧ H1[H.size]? = some (arrV (dA t) n (jx_el (xz u H.size) t H.size))) : XW D dA (xup K H.size v) (xz u H.size) H1 := by
  refine ⟨fun b c hk => ?_, fun b t n hk => ?_, fun b n hk j => ?_, fun b n hk j => ?_⟩
  · by_cases hb : b = H.size
    · subst hb; simp only [xup, if_true] at hk; exact hob c hk
    · simp only [xup, hb, if_false] at hk
      obtain ⟨r, h1, h2⟩ := h.1 b c hk
      exact ⟨r, h1, (h2.kept (o1 b (h.lt (by rw [hk]; simp)))).to fun k _ => (xg_z (u := u)).fv hb k⟩
  · by_cases hb : b = H.size
    · subst hb; simp only [xup, if_true] at hk; exact har t n hk
    · simp only [xup, hb, if_false] at hk
      rw [o1 b (h.lt (by rw [hk]; simp)), (xg_z (u := u)).el hb]; exact h.2.1 b t n hk
  · by_cases hb : b = H.size
    · subst hb; simp [xz]; rfl
    · simp only [xup, hb, if_false] at hk
      rw [((xg_z (u := u)) b hb j).1]; exact h.2.2.1 b n hk j
  · by_cases hb : b = H.size
    · subst hb; simp [xz]; rfl
    · simp only [xup, hb, if_false] at hk
      rw [((xg_z (u := u)) b hb j).1]; exact h.2.2.2 b n hk j
