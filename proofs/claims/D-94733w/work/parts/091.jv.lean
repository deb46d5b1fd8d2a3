/-! what the machine throws by itself -/
set_option linter.unusedVariables false
def jv_ok (w : Cond) : Bool := decide (w ∈ lw_all) || decide (w ∈ jx_nest)
def jv_upI : List String := ["java/lang/IndexOutOfBoundsException", "java/lang/RuntimeException", "java/lang/Exception"]
def jv_upN : List String := ["java/lang/RuntimeException", "java/lang/Exception"]
theorem jv_w1 : (vx_atM "java/lang/ArrayIndexOutOfBoundsException" jv_upI).all jv_ok = true := by decide +kernel
theorem jv_w2 : (vx_atM "java/lang/NegativeArraySizeException" jv_upN).all jv_ok = true := by decide +kernel
theorem jv_g1 : (vx_atM "java/lang/ArrayIndexOutOfBoundsException" jv_upI).all vx_ot = true := by decide +kernel
theorem jv_g2 : (vx_atM "java/lang/NegativeArraySizeException" jv_upN).all vx_ot = true := by decide +kernel
section JV1
variable {X : JC} {A : Nat → Prop} {Q : State → Prop} {nL : Nat} {k n pc : Nat} {lv : List (Nat × Value)} {st : List Value} {own : String} {cc : ByteArray} {ret : Option FieldType} {F LL mc ms : Nat} {D : va_G} {dA aK aV : Nat → Nat} {K : XK} {u : XS}
theorem jv_words {L : List Cond} (hX : JX X own cc nL ret F LL mc ms) (hN : JN (jj_s X)) (h : L.all jv_ok = true) : ∀ w ∈ L, w.before (jj_a X) (jj_s X) = true := by
  intro w hw
  have h1 := List.all_eq_true.mp h w hw
  unfold jv_ok at h1
  rw [Bool.or_eq_true] at h1
  rcases h1 with h1 | h1
  · exact hX.2.2.2.2.1 _ (of_decide_eq_true h1)
  · exact hN.use (of_decide_eq_true h1)
theorem jv_vm {cls text : String} {names : List String} {nb : Nat} {H : Heap} {locs : List Loc} {ls : Array Slot} (hX : JX X own cc nL ret F LL mc ms) (hY : JY X D dA aK aV A) (hcls : Bundle.fit cls = true) (hnames : ∀ n ∈ names, Bundle.fit n = true) (hsoe : (cls == "java/lang/StackOverflowError") = false) (hoom : (cls == "java/lang/OutOfMemoryError") = false) (hw1 : (vx_atM cls names).all jv_ok = true) (hg : (vx_atM cls names).all vx_ot = true) (htext : (text == notModelled) = false) (hnb : (stringBytes (stringToUtf16 text)).size ≤ nb) (hnb1 : nb ≤ 1000) (hF : names.length + 4 < F) (hL : 10248 ≤ LL) (hshort : 13 * names.length + 55 ≤ 10240) (hw : (st.map fun v => v.category).sum ≤ 8) (hc : k + 3 ≤ mc) (hs : n + (nb + 10) ≤ ms)
    (hP : XP D dA A K u H) (hS : va_S A (jj_s X).heap H locs) (hh : lv_has ls nL lv) (h : ∀ q, JT X A Q nL (XP D dA A K u) (k + 3) (n + (nb + 10)) pc lv cls q) : vx_Note X.1 X.2.1 X.2.2.1 X.2.2.2.1 X.2.2.2.2.1 X.2.2.2.2.2.1 X.2.2.2.2.2.2.1 X.2.2.2.2.2.2.2.1 X.2.2.2.2.2.2.2.2.1 X.2.2.2.2.2.2.2.2.2 H locs k n Q (F0 (jj_m X) pc ls st) cls text := by
  obtain ⟨h1, h2, h3, h4, h5, h6, h7, h8, h9, h10, h11⟩ := id hX
  refine vx_vm h1 hY.2.2.2.2 (names := names) (nb := nb) (A := A) hcls hnames hsoe hoom (jv_words hX hY.2.1 hw1) (List.all_eq_true.mp hg) hY.2.2.1.1 hY.2.2.1.2.1 hS (hh.1.trans h3.symm) htext hnb hnb1 (by rw [h8]; exact hF) (by rw [h9]; omega) hshort (by rw [h10]; exact hc) (by rw [h11]; exact hs) h6 fun H1 q9 ce hz hq hS1 g1 g2 g3 => ?_
  exact h q9 H1 locs ls st ce ⟨hP.1.kept fun a ha => hq a (hP.1.lt ha), hP.2⟩ hS1 hh g1 g2 g3
theorem jv_idx {nn : Nat} {i : Int32} {H : Heap} {locs : List Loc} {ls : Array Slot} (hX : JX X own cc nL ret F LL mc ms) (hY : JY X D dA aK aV A) (hnn : nn < 2147483648) (hF : 8 ≤ F) (hL : 10248 ≤ LL) (hw : (st.map fun v => v.category).sum ≤ 8) (hc : k + 3 ≤ mc) (hs : n + 222 ≤ ms) (hP : XP D dA A K u H) (hS : va_S A (jj_s X).heap H locs) (hh : lv_has ls nL lv) (h : ∀ q, JT X A Q nL (XP D dA A K u) (k + 3) (n + 222) pc lv (jx_en 100) q) : vx_Note X.1 X.2.1 X.2.2.1 X.2.2.2.1 X.2.2.2.2.1 X.2.2.2.2.2.1 X.2.2.2.2.2.2.1 X.2.2.2.2.2.2.2.1 X.2.2.2.2.2.2.2.2.1 X.2.2.2.2.2.2.2.2.2 H locs k n Q (F0 (jj_m X) pc ls st) "java/lang/ArrayIndexOutOfBoundsException" (toString "Index " ++ toString i ++ toString " out of bounds for length " ++ toString nn) :=
  jv_vm (names := jv_upI) (nb := 212) hX hY (by decide) (by decide) (by decide) (by decide) jv_w1 jv_g1 (index_text_modelled i nn) (index_text_bytes i hnn) (by decide) hF hL (by decide) hw hc hs hP hS hh h
/-- new arrays of a negative length -/
theorem jv_newneg {atype : ArrayType} {i : Int32} (hX : JX X own cc nL ret F LL mc ms) (hY : JY X D dA aK aV A) (hn0 : i < 0) (hF : 7 ≤ F) (hL : 10248 ≤ LL) (hw : (st.map fun v => v.category).sum ≤ 8) (hc : k + 3 ≤ mc) (hs : n + 54 ≤ ms) (d : decode cc pc = .ok (.newarray atype, 2)) (h : ∀ q, JT X A Q nL (XP D dA A K u) (k + 3) (n + 54) pc lv (jx_en 101) q) : JJ X A Q nL (XP D dA A K u) k n pc lv (.int i :: st) :=
  fun H locs ls hP hS hh => vx_newarrayZ hX.1 hX.2.1 hn0 d fun tx htx => by
    subst htx
    exact jv_vm (names := jv_upN) (nb := 44) hX hY (by decide) (by decide) (by decide) (by decide) jv_w2 jv_g2 (negative_text_modelled hn0) (negative_text_bytes i) (by decide) hF hL (by decide) hw hc hs hP hS hh h
theorem jv_iald {a nn : Nat} {i : Int32} (hX : JX X own cc nL ret F LL mc ms) (hY : JY X D dA aK aV A) (h1 : K a = (2, nn)) (hout : ¬ vp_in i nn) (hnn : nn < 2147483648) (hF : 8 ≤ F) (hL : 10248 ≤ LL) (hw : (st.map fun v => v.category).sum ≤ 8) (hc : k + 3 ≤ mc) (hs : n + 222 ≤ ms) (d : decode cc pc = .ok (.iaload, 1)) (h : ∀ q, JT X A Q nL (XP D dA A K u) (k + 3) (n + 222) pc lv (jx_en 100) q) : JJ X A Q nL (XP D dA A K u) k n pc lv (.int i :: .ref a :: st) := by
  intro H locs ls hP hS hh T hT X9
  obtain ⟨t, s9, q9⟩ := jv_idx (i := i) (st := st) hX hY hnn hF hL hw hc hs hP hS hh h T hT X9
  refine ⟨t, ?_, q9⟩
  have h9 := X9.ialoadOut hX.1 (by rw [hT]; exact (hP.1.2.1 a 0 nn h1).2) ((hY.1.arr (t := 0) rfl).1 _ _) (j := i) (by show (i < 0 ∨ (arrV _ _ _).slots.size ≤ _); rw [arrV_size]; exact Classical.byContradiction hout) (g := F0 (jj_m X) pc ls (.int i :: .ref a :: st)) rfl (rest := st) rfl (by rw [hX.2.1]; exact d) t
  simp only [arrV_size] at h9
  exact h9 s9
theorem jv_bald {a nn : Nat} {i : Int32} (hX : JX X own cc nL ret F LL mc ms) (hY : JY X D dA aK aV A) (h1 : K a = (3, nn)) (hout : ¬ vp_in i nn) (hnn : nn < 2147483648) (hF : 8 ≤ F) (hL : 10248 ≤ LL) (hw : (st.map fun v => v.category).sum ≤ 8) (hc : k + 3 ≤ mc) (hs : n + 222 ≤ ms) (d : decode cc pc = .ok (.baload, 1)) (h : ∀ q, JT X A Q nL (XP D dA A K u) (k + 3) (n + 222) pc lv (jx_en 100) q) : JJ X A Q nL (XP D dA A K u) k n pc lv (.int i :: .ref a :: st) := by
  intro H locs ls hP hS hh T hT X9
  obtain ⟨t, s9, q9⟩ := jv_idx (i := i) (st := st) hX hY hnn hF hL hw hc hs hP hS hh h T hT X9
  refine ⟨t, ?_, q9⟩
  have h9 := X9.baloadOut hX.1 (by rw [hT]; exact (hP.1.2.1 a 1 nn h1).2) ((hY.1.arr (t := 1) rfl).1 _ _) (j := i) (by show (i < 0 ∨ (arrV _ _ _).slots.size ≤ _); rw [arrV_size]; exact Classical.byContradiction hout) (g := F0 (jj_m X) pc ls (.int i :: .ref a :: st)) rfl (rest := st) rfl (by rw [hX.2.1]; exact d) t
  simp only [arrV_size] at h9
  exact h9 s9
theorem jv_sald {a nn : Nat} {i : Int32} (hX : JX X own cc nL ret F LL mc ms) (hY : JY X D dA aK aV A) (h1 : K a = (4, nn)) (hout : ¬ vp_in i nn) (hnn : nn < 2147483648) (hF : 8 ≤ F) (hL : 10248 ≤ LL) (hw : (st.map fun v => v.category).sum ≤ 8) (hc : k + 3 ≤ mc) (hs : n + 222 ≤ ms) (d : decode cc pc = .ok (.saload, 1)) (h : ∀ q, JT X A Q nL (XP D dA A K u) (k + 3) (n + 222) pc lv (jx_en 100) q) : JJ X A Q nL (XP D dA A K u) k n pc lv (.int i :: .ref a :: st) := by
  intro H locs ls hP hS hh T hT X9
  obtain ⟨t, s9, q9⟩ := jv_idx (i := i) (st := st) hX hY hnn hF hL hw hc hs hP hS hh h T hT X9
  refine ⟨t, ?_, q9⟩
  have h9 := X9.saloadOut hX.1 (by rw [hT]; exact (hP.1.2.1 a 2 nn h1).2) ((hY.1.arr (t := 2) rfl).1 _ _) (j := i) (by show (i < 0 ∨ (arrV _ _ _).slots.size ≤ _); rw [arrV_size]; exact Classical.byContradiction hout) (g := F0 (jj_m X) pc ls (.int i :: .ref a :: st)) rfl (rest := st) rfl (by rw [hX.2.1]; exact d) t
  simp only [arrV_size] at h9
  exact h9 s9
theorem jv_lald {a nn : Nat} {i : Int32} (hX : JX X own cc nL ret F LL mc ms) (hY : JY X D dA aK aV A) (h1 : K a = (5, nn)) (hout : ¬ vp_in i nn) (hnn : nn < 2147483648) (hF : 8 ≤ F) (hL : 10248 ≤ LL) (hw : (st.map fun v => v.category).sum ≤ 8) (hc : k + 3 ≤ mc) (hs : n + 222 ≤ ms) (d : decode cc pc = .ok (.laload, 1)) (h : ∀ q, JT X A Q nL (XP D dA A K u) (k + 3) (n + 222) pc lv (jx_en 100) q) : JJ X A Q nL (XP D dA A K u) k n pc lv (.int i :: .ref a :: st) := by
  intro H locs ls hP hS hh T hT X9
  obtain ⟨t, s9, q9⟩ := jv_idx (i := i) (st := st) hX hY hnn hF hL hw hc hs hP hS hh h T hT X9
  refine ⟨t, ?_, q9⟩
  have h9 := X9.laloadOut hX.1 (by rw [hT]; exact (hP.1.2.1 a 3 nn h1).2) ((hY.1.arr (t := 3) rfl).1 _ _) (j := i) (by show (i < 0 ∨ (arrV _ _ _).slots.size ≤ _); rw [arrV_size]; exact Classical.byContradiction hout) (g := F0 (jj_m X) pc ls (.int i :: .ref a :: st)) rfl (rest := st) rfl (by rw [hX.2.1]; exact d) t
  simp only [arrV_size] at h9
  exact h9 s9
theorem jv_iast {a nn : Nat} {i : Int32} {x : Int32} (hX : JX X own cc nL ret F LL mc ms) (hY : JY X D dA aK aV A) (h1 : K a = (2, nn)) (hout : ¬ vp_in i nn) (hnn : nn < 2147483648) (hF : 8 ≤ F) (hL : 10248 ≤ LL) (hw : (st.map fun v => v.category).sum ≤ 8) (hc : k + 3 ≤ mc) (hs : n + 222 ≤ ms) (d : decode cc pc = .ok (.iastore, 1)) (h : ∀ q, JT X A Q nL (XP D dA A K u) (k + 3) (n + 222) pc lv (jx_en 100) q) : JJ X A Q nL (XP D dA A K u) k n pc lv (.int x :: .int i :: .ref a :: st) := by
  intro H locs ls hP hS hh T hT X9
  obtain ⟨t, s9, q9⟩ := jv_idx (i := i) (st := st) hX hY hnn hF hL hw hc hs hP hS hh h T hT X9
  refine ⟨t, ?_, q9⟩
  have h9 := X9.iastoreOut hX.1 (by rw [hT]; exact (hP.1.2.1 a 0 nn h1).2) ((hY.1.arr (t := 0) rfl).1 _ _) (j := i) (by show (i < 0 ∨ (arrV _ _ _).slots.size ≤ _); rw [arrV_size]; exact Classical.byContradiction hout) (g := F0 (jj_m X) pc ls (.int x :: .int i :: .ref a :: st)) rfl (rest := st) rfl (by rw [hX.2.1]; exact d) t
  simp only [arrV_size] at h9
  exact h9 s9
theorem jv_bast {a nn : Nat} {i : Int32} {x : Int32} (hX : JX X own cc nL ret F LL mc ms) (hY : JY X D dA aK aV A) (h1 : K a = (3, nn)) (hout : ¬ vp_in i nn) (hnn : nn < 2147483648) (hF : 8 ≤ F) (hL : 10248 ≤ LL) (hw : (st.map fun v => v.category).sum ≤ 8) (hc : k + 3 ≤ mc) (hs : n + 222 ≤ ms) (d : decode cc pc = .ok (.bastore, 1)) (h : ∀ q, JT X A Q nL (XP D dA A K u) (k + 3) (n + 222) pc lv (jx_en 100) q) : JJ X A Q nL (XP D dA A K u) k n pc lv (.int x :: .int i :: .ref a :: st) := by
  intro H locs ls hP hS hh T hT X9
  obtain ⟨t, s9, q9⟩ := jv_idx (i := i) (st := st) hX hY hnn hF hL hw hc hs hP hS hh h T hT X9
  refine ⟨t, ?_, q9⟩
  have h9 := X9.bastoreOut hX.1 (by rw [hT]; exact (hP.1.2.1 a 1 nn h1).2) ((hY.1.arr (t := 1) rfl).1 _ _) (j := i) (by show (i < 0 ∨ (arrV _ _ _).slots.size ≤ _); rw [arrV_size]; exact Classical.byContradiction hout) (g := F0 (jj_m X) pc ls (.int x :: .int i :: .ref a :: st)) rfl (rest := st) rfl (by rw [hX.2.1]; exact d) t
  simp only [arrV_size] at h9
  exact h9 s9
theorem jv_sast {a nn : Nat} {i : Int32} {x : Int32} (hX : JX X own cc nL ret F LL mc ms) (hY : JY X D dA aK aV A) (h1 : K a = (4, nn)) (hout : ¬ vp_in i nn) (hnn : nn < 2147483648) (hF : 8 ≤ F) (hL : 10248 ≤ LL) (hw : (st.map fun v => v.category).sum ≤ 8) (hc : k + 3 ≤ mc) (hs : n + 222 ≤ ms) (d : decode cc pc = .ok (.sastore, 1)) (h : ∀ q, JT X A Q nL (XP D dA A K u) (k + 3) (n + 222) pc lv (jx_en 100) q) : JJ X A Q nL (XP D dA A K u) k n pc lv (.int x :: .int i :: .ref a :: st) := by
  intro H locs ls hP hS hh T hT X9
  obtain ⟨t, s9, q9⟩ := jv_idx (i := i) (st := st) hX hY hnn hF hL hw hc hs hP hS hh h T hT X9
  refine ⟨t, ?_, q9⟩
  have h9 := X9.sastoreOut hX.1 (by rw [hT]; exact (hP.1.2.1 a 2 nn h1).2) ((hY.1.arr (t := 2) rfl).1 _ _) (j := i) (by show (i < 0 ∨ (arrV _ _ _).slots.size ≤ _); rw [arrV_size]; exact Classical.byContradiction hout) (g := F0 (jj_m X) pc ls (.int x :: .int i :: .ref a :: st)) rfl (rest := st) rfl (by rw [hX.2.1]; exact d) t
  simp only [arrV_size] at h9
  exact h9 s9
theorem jv_last {a nn : Nat} {i : Int32} {x : Int64} (hX : JX X own cc nL ret F LL mc ms) (hY : JY X D dA aK aV A) (h1 : K a = (5, nn)) (hout : ¬ vp_in i nn) (hnn : nn < 2147483648) (hF : 8 ≤ F) (hL : 10248 ≤ LL) (hw : (st.map fun v => v.category).sum ≤ 8) (hc : k + 3 ≤ mc) (hs : n + 222 ≤ ms) (d : decode cc pc = .ok (.lastore, 1)) (h : ∀ q, JT X A Q nL (XP D dA A K u) (k + 3) (n + 222) pc lv (jx_en 100) q) : JJ X A Q nL (XP D dA A K u) k n pc lv (.long x :: .int i :: .ref a :: st) := by
  intro H locs ls hP hS hh T hT X9
  obtain ⟨t, s9, q9⟩ := jv_idx (i := i) (st := st) hX hY hnn hF hL hw hc hs hP hS hh h T hT X9
  refine ⟨t, ?_, q9⟩
  have h9 := X9.lastoreOut hX.1 (by rw [hT]; exact (hP.1.2.1 a 3 nn h1).2) ((hY.1.arr (t := 3) rfl).1 _ _) (j := i) (by show (i < 0 ∨ (arrV _ _ _).slots.size ≤ _); rw [arrV_size]; exact Classical.byContradiction hout) (g := F0 (jj_m X) pc ls (.long x :: .int i :: .ref a :: st)) rfl (rest := st) rfl (by rw [hX.2.1]; exact d) t
  simp only [arrV_size] at h9
  exact h9 s9
end JV1
