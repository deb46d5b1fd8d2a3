/-! further rows -/
set_option linter.unusedVariables false
theorem va_rf_some {r : Option Nat} {b : Nat} (h : r = some b) : va_rf r = .ref b := by rw [h]; rfl
section JXS
variable {X : JC} {A : Nat → Prop} {Q : State → Prop} {nL : Nat} {P : Heap → Prop} {k n pc : Nat} {lv : List (Nat × Value)} {st : List Value} {own : String} {cc : ByteArray} {ret : Option FieldType} {F LL mc ms : Nat}
theorem jj_st {st2 : List Value} (he : st = st2) (h : JJ X A Q nL P k n pc lv st2) : JJ X A Q nL P k n pc lv st := by rw [he]; exact h
theorem jj_null (hX : JX X own cc nL ret F LL mc ms) (d : decode cc pc = .ok (.aconst_null, 1)) (q : Nat) (hq : pc + 1 = q) (h : JJ X A Q nL P k n q lv (va_rf none :: st)) : JJ X A Q nL P k n pc lv st := by
  subst hq
  exact fun H locs ls hP hS hh => lv_null hX.1 hX.2.1 d (h H locs ls hP hS hh)
theorem jj_ifnull {r : Option Nat} {off : Int} (hX : JX X own cc nL ret F LL mc ms) (d : decode cc pc = .ok (.ifnull off, 3)) (t q : Nat) (ht : (pc : Int) + off = (t : Int)) (hq : pc + 3 = q) (kt : r = none → JJ X A Q nL P k n t lv st) (kf : ¬ r = none → JJ X A Q nL P k n q lv st) : JJ X A Q nL P k n pc lv (va_rf r :: st) := by
  subst hq
  cases r with
  | none => exact fun H locs ls hP hS hh => lv_ifnullN hX.1 hX.2.1 d ht (kt rfl H locs ls hP hS hh)
  | some b => exact fun H locs ls hP hS hh => lv_ifnull hX.1 hX.2.1 d (kf (fun e => by cases e) H locs ls hP hS hh)
theorem jj_ifnonnull {r : Option Nat} {off : Int} (hX : JX X own cc nL ret F LL mc ms) (d : decode cc pc = .ok (.ifnonnull off, 3)) (t q : Nat) (ht : (pc : Int) + off = (t : Int)) (hq : pc + 3 = q) (kt : ¬ r = none → JJ X A Q nL P k n t lv st) (kf : r = none → JJ X A Q nL P k n q lv st) : JJ X A Q nL P k n pc lv (va_rf r :: st) := by
  subst hq
  cases r with
  | none => exact fun H locs ls hP hS hh => lv_ifnonnullN hX.1 hX.2.1 d (kf rfl H locs ls hP hS hh)
  | some b => exact fun H locs ls hP hS hh => lv_ifnonnull hX.1 hX.2.1 d ht (kt (fun e => by cases e) H locs ls hP hS hh)
theorem jj_acmp_eq {rx ry : Option Nat} {off : Int} (hX : JX X own cc nL ret F LL mc ms) (d : decode cc pc = .ok (.if_acmp .eq off, 3)) (t q : Nat) (ht : (pc : Int) + off = (t : Int)) (hq : pc + 3 = q) (kt : rx = ry → JJ X A Q nL P k n t lv st) (kf : ¬ rx = ry → JJ X A Q nL P k n q lv st) : JJ X A Q nL P k n pc lv (va_rf ry :: va_rf rx :: st) := by
  subst hq
  exact fun H locs ls hP hS hh => lv_acmp_eq hX.1 hX.2.1 d ht (fun c9 => kt c9 H locs ls hP hS hh) (fun c9 => kf c9 H locs ls hP hS hh)
theorem jj_acmp_ne {rx ry : Option Nat} {off : Int} (hX : JX X own cc nL ret F LL mc ms) (d : decode cc pc = .ok (.if_acmp .ne off, 3)) (t q : Nat) (ht : (pc : Int) + off = (t : Int)) (hq : pc + 3 = q) (kt : ¬ rx = ry → JJ X A Q nL P k n t lv st) (kf : rx = ry → JJ X A Q nL P k n q lv st) : JJ X A Q nL P k n pc lv (va_rf ry :: va_rf rx :: st) := by
  subst hq
  exact fun H locs ls hP hS hh => lv_acmp_ne hX.1 hX.2.1 d ht (fun c9 => kt c9 H locs ls hP hS hh) (fun c9 => kf c9 H locs ls hP hS hh)
theorem jj_retr {S : Type} {post : Nat → S → Prop} {B : S → State → Prop} {v : Nat} {u : S} {rt : FieldType} (hX : JX X own cc nL (some rt) F LL mc ms) (hrt : (∃ n, rt = .object n) ∨ ∃ t, rt = .array t) (d : decode cc pc = .ok (.areturn, 1)) (hk : k ≤ mc) (hn : n ≤ ms) (hB : ∀ (H : Heap) (t : State), P H → t.heap = H → B u t) (h : post v u) : JJ X A (jj_Q X (jx_Qr post B A) mc ms A) nL P k n pc lv [.ref v] :=
  fun H locs ls hP hS hh => W.widen hk hn (W.aret hX.1 hX.2.1 hX.2.2.2.2.2.2.1 hrt (Or.inr ⟨v, rfl⟩) (fun t ht hW => ⟨⟨(v, u), v, rfl, h, rfl, hB H t hP ht⟩, hS.F ht⟩) hS.2.2 d hX.2.2.2.2.2.1)
/-- Object's constructor -/
theorem jj_oinit {ix b : Nat} (hX : JX X own cc nL ret F LL mc ms) (hlk : (Cond.methodLink own ix ({ cls := "java/lang/Object", name := "<init>", desc := "()V" } : Jvm.MethodName)) ∈ lw_all) (hF : 0 + 1 ≤ F) (hL : 8 + (1 + 11) ≤ LL) (hw : (st.map fun v => v.category).sum ≤ 8) (d : decode cc pc = .ok (.invokespecial ix, 3)) (q : Nat) (hq : pc + 3 = q) (h : JJ X A Q nL P k n q lv st) : JJ X A Q nL P k n pc lv (.ref b :: st) := by
  subst hq
  obtain ⟨h1, h2, h3, h4, h5, h6, h7, h8, h9, h10, h11⟩ := hX
  exact fun H locs ls hP hS hh => W.objInit h1 h2 h4 (h5 _ hlk) (h5 _ q156) (h5 _ q157) rfl (by rw [h3]; exact hh.1) rfl d (by rw [h8]; omega) (by rw [h9]; show 2 * 0 + _ + _ ≤ _; omega) (h H locs ls hP hS hh)
theorem jj_lneg {x : Int64} (hX : JX X own cc nL ret F LL mc ms) (d : decode cc pc = .ok (.lneg, 1)) (q : Nat) (hq : pc + 1 = q) (h : JJ X A Q nL P k n q lv (.long (-x) :: st)) : JJ X A Q nL P k n pc lv (.long x :: st) := by
  subst hq
  exact fun H locs ls hP hS hh => lv_lneg hX.1 hX.2.1 d (h H locs ls hP hS hh)
theorem jj_tabo {dflt lo hi : Int} {offs : Array Int} {len : Nat} {x : Int32} (hX : JX X own cc nL ret F LL mc ms) (d : decode cc pc = .ok (.tableswitch dflt lo hi offs, len)) (hc : x.toInt < lo ∨ hi < x.toInt) (t : Nat) (ht : (pc : Int) + dflt = (t : Int)) (h : JJ X A Q nL P k n t lv st) : JJ X A Q nL P k n pc lv (.int x :: st) := fun H locs ls hP hS hh => lv_tableOut hX.1 hX.2.1 d hc ht (h H locs ls hP hS hh)
theorem jj_tabi {dflt lo hi : Int} {offs : Array Int} {len : Nat} {x : Int32} (hX : JX X own cc nL ret F LL mc ms) (d : decode cc pc = .ok (.tableswitch dflt lo hi offs, len)) (h1 : ¬ x.toInt < lo) (h2 : ¬ hi < x.toInt) {off : Int} (ho : offs[(x.toInt - lo).toNat]? = some off) (t : Nat) (ht : (pc : Int) + off = (t : Int)) (h : JJ X A Q nL P k n t lv st) : JJ X A Q nL P k n pc lv (.int x :: st) := fun H locs ls hP hS hh => lv_tableIn hX.1 hX.2.1 d h1 h2 ho ht (h H locs ls hP hS hh)
end JXS
theorem jj_tsw {x : Int32} {m : Nat} (hm : m < 2 ^ 30) (h : ¬ (x.toInt < 0 ∨ (m : Int) < x.toInt)) : ∃ j : Nat, j < m + 1 ∧ x = nI j := by
  refine ⟨x.toInt.toNat, by omega, Int32.toInt_inj.mp ?_⟩
  rw [nI_toInt (by omega)]
  omega
theorem XW.cpi {D : va_G} {dA : Nat → Nat} {K : XK} {u : XS} {H H1 : Heap} (h : XW D dA K u H) {a0 a1 t n0 n1 sp dp n : Nat} (k0 : K a0 = (t + 2, n0)) (k1 : K a1 = (t + 2, n1)) (ht : t < 3) (e1 : H1[a1]? = some (arrV (dA t) n1 (fun j => .int (va_cpy (u.1 a0) (u.1 a1) sp dp n j)))) (oq : ∀ q : Nat, q ≠ a1 → H1[q]? = H[q]?) : XW D dA K (xcp u a0 sp a1 dp n) H1 := by
  have eq1 : ∀ j, (xcp u a0 sp a1 dp n).1 a1 j = va_cpy (u.1 a0) (u.1 a1) sp dp n j := fun j => by simp [xcp, va_cpy]
  refine h.upd (u2 := xcp u a0 sp a1 dp n) (a := a1) (fun b hb k => ⟨by simp [xcp, hb], rfl, rfl⟩) oq (fun c2 e => ?_) (fun t2 n2 e => ?_) (fun n2 e j => ?_) (fun n2 e j => ?_)
  · rw [k1] at e; simp at e
  · rw [k1] at e
    obtain ⟨e2, e3⟩ := Prod.mk.inj e
    have e4 : t2 = t := by omega
    subst e4; subst e3
    rw [e1]
    congr 2
    funext j
    simp only [jx_el, show ¬ t2 = 3 by omega, show ¬ 5 ≤ t2 by omega, if_false, eq1]
  · rw [k1] at e
    obtain ⟨e2, e3⟩ := Prod.mk.inj e
    have e4 : t = 1 := by omega
    subst e4
    rw [eq1]
    unfold va_cpy
    split
    · exact h.2.2.1 a0 n0 k0 _
    · exact h.2.2.1 a1 n1 k1 _
  · rw [k1] at e
    obtain ⟨e2, e3⟩ := Prod.mk.inj e
    have e4 : t = 2 := by omega
    subst e4
    rw [eq1]
    unfold va_cpy
    split
    · exact h.2.2.2 a0 n0 k0 _
    · exact h.2.2.2 a1 n1 k1 _
theorem XW.cpl {D : va_G} {dA : Nat → Nat} {K : XK} {u : XS} {H H1 : Heap} (h : XW D dA K u H) {a0 a1 n0 n1 sp dp n : Nat} (k0 : K a0 = (5, n0)) (k1 : K a1 = (5, n1)) (e1 : H1[a1]? = some (arrV (dA 3) n1 (fun j => .long (va_cpy (u.2.1 a0) (u.2.1 a1) sp dp n j)))) (oq : ∀ q : Nat, q ≠ a1 → H1[q]? = H[q]?) : XW D dA K (xcpl u a0 sp a1 dp n) H1 := by
  have eq1 : ∀ j, (xcpl u a0 sp a1 dp n).2.1 a1 j = va_cpy (u.2.1 a0) (u.2.1 a1) sp dp n j := fun j => by simp [xcpl, va_cpy]
  refine h.upd (u2 := xcpl u a0 sp a1 dp n) (a := a1) (fun b hb k => ⟨rfl, by simp [xcpl, hb], rfl⟩) oq (fun c2 e => ?_) (fun t2 n2 e => ?_) (fun n2 e j => ?_) (fun n2 e j => ?_)
  · rw [k1] at e; simp at e
  · rw [k1] at e
    obtain ⟨e2, e3⟩ := Prod.mk.inj e
    have e4 : t2 = 3 := by omega
    subst e4; subst e3
    rw [e1]
    congr 2
    funext j
    simp only [jx_el, if_true, eq1]
  · rw [k1] at e; simp at e
  · rw [k1] at e; simp at e
theorem XP.keeps {D : va_G} {dA : Nat → Nat} {A : Nat → Prop} {K : XK} {u : XS} : jj_Keeps (XP D dA A K u) := fun H H1 h hq _ => ⟨h.1.kept (fun a ha => hq a (h.1.lt ha)), h.2⟩
theorem jj_cs {X : JC} {A : Nat → Prop} {Q : State → Prop} {nL : Nat} {P : Heap → Prop} {k n pc : Nat} {lv : List (Nat × Value)} {st : List Value} {k2 n2 : Nat} (h1 : k = k2) (h2 : n = n2) (h : JJ X A Q nL P k2 n2 pc lv st) : JJ X A Q nL P k n pc lv st := by subst h1; subst h2; exact h
def xRule (K : XK) (a : Nat) : Prop := ∃ c, 10 ≤ c ∧ c ≤ 14 ∧ K a = (1, c)
theorem xRule.le {K K2 : XK} {a : Nat} (hle : XLe K K2) (h : xRule K a) : xRule K2 a := by
  obtain ⟨c, h1, h2, h3⟩ := h
  exact ⟨c, h1, h2, hle.at h3 (by simp)⟩
theorem lw_U {own C owner : String} {idx : Nat} {x y : MethodName} {b : ByteArray} {L : Nat} {r : Option FieldType} (h1 : Cond.methodLink own idx x ∈ lw_all) (h2 : Cond.sameMethod x.cls owner x.name x.desc ∈ lw_all) (h3 : Cond.selects C x y ∈ lw_all) (h4 : Cond.instanceMethod y ∈ lw_all) (h5 : Cond.initialized y.cls ∈ lw_all) (h6 : Cond.code y b L r ∈ lw_all) : GoodIn lw_all (va_wsU own idx C owner x y (ws_ y b L r)) := by
  refine lw_app ?_ (lw_meth h6)
  intro w hw
  simp only [List.mem_cons, List.not_mem_nil, or_false] at hw
  rcases hw with e | e | e | e | e
  · rw [e]; exact h1
  · rw [e]; exact h2
  · rw [e]; exact h3
  · rw [e]; exact h4
  · rw [e]; exact h5
theorem jx_callUi {X : JC} {Q : State → Prop} {nL : Nat} {k n pc : Nat} {lv : List (Nat × Value)} {st st0 : List Value} {own : String} {cc : ByteArray} {ret rt : Option FieldType} {F LL mc ms f9 l9 : Nat} {D : va_G} {dA aK aV : Nat → Nat} {K : XK} {u : XS} {A : Nat → Prop} {y : MethodName} {bytes : ByteArray} {maxL ix na : Nat} {As : List Value} {xm : MethodName} {owner : String} {a c N : Nat} {C : String} {T : u_T} {ty0 : Nat → FieldType} {post : Int32 → XS → Prop} (hX : JX X own cc nL ret F LL mc ms) (hY : JY X D dA aK aV A) (hF : JF c C T N ty0) (h1a : K a = (1, c)) (hM : ∀ sz, Met (jj_l X) y (ws_ y bytes maxL rt) (jx_rm f9 l9 0 0) (jx_Pc D dA aK aV K u sz (.ref a :: As)) (va_Qi (fun (r : Int32) (w : XS) => post r w) (jx_B D dA K) (AX K sz)) 0 0 (AX K sz)) (hcu : va_CU (jj_R X) (jj_s X) (jj_a X) own C owner ix xm y bytes maxL rt (ws_ y bytes maxL rt) (jx_rm f9 l9 0 0) 0 0 na) (hn : As.length = na) (hst : st0 = As.reverse ++ .ref a :: st) (hw : (st.map fun v => v.category).sum ≤ 8) (hk : k ≤ mc) (hk2 : n ≤ ms) (d : decode cc pc = .ok (.invokevirtual ix, 3)) (q : Nat) (hq : pc + 3 = q) (kk : ∀ (r : Int32) (u2 : XS), post r u2 → JJ X A Q nL (XP D dA A K u2) k n q lv (.int r :: st)) : JJ X A Q nL (XP D dA A K u) k n pc lv st0 := by
  subst hq
  obtain ⟨h1, h2, h3, h4, h5, h6, h7, h8, h9, h10, h11⟩ := hX
  exact fun H locs ls hP hS hh => va_calli (va_runU ⟨h1, h2, h3, h4, h5⟩ (hM H.size) hcu ⟨jx_blind, jx_recv hY hP hF h1a, jx_pre hY hP hS⟩ rfl hn hh.1 hst (lv_room hw) d ⟨by rw [h10]; exact hk, by rw [h11]; exact hk2⟩) hS (jx_hA1 hP) (jx_sub hY hP hS) (fun r w2 t H1 locs1 ht hvm hp hB hz1 hk1 hS1 => kk r w2 hp H1 locs1 ls ⟨by rw [← ht]; exact hB, hP.2⟩ hS1 hh)
theorem jx_callUz {X : JC} {Q : State → Prop} {nL : Nat} {k n pc : Nat} {lv : List (Nat × Value)} {st st0 : List Value} {own : String} {cc : ByteArray} {ret rt : Option FieldType} {F LL mc ms f9 l9 : Nat} {D : va_G} {dA aK aV : Nat → Nat} {K : XK} {u : XS} {A : Nat → Prop} {y : MethodName} {bytes : ByteArray} {maxL ix na : Nat} {As : List Value} {xm : MethodName} {owner : String} {a c N : Nat} {C : String} {T : u_T} {ty0 : Nat → FieldType} {post : Int32 → XS → Prop} (hX : JX X own cc nL ret F LL mc ms) (hY : JY X D dA aK aV A) (hF : JF c C T N ty0) (h1a : K a = (1, c)) (hM : ∀ sz, Met (jj_l X) y (ws_ y bytes maxL rt) (jx_rm f9 l9 0 0) (jx_Pc D dA aK aV K u sz (.ref a :: As)) (va_Qi (fun (r : Int32) (w : XS) => post r w ∧ jj_z r) (jx_B D dA K) (AX K sz)) 0 0 (AX K sz)) (hcu : va_CU (jj_R X) (jj_s X) (jj_a X) own C owner ix xm y bytes maxL rt (ws_ y bytes maxL rt) (jx_rm f9 l9 0 0) 0 0 na) (hn : As.length = na) (hst : st0 = As.reverse ++ .ref a :: st) (hw : (st.map fun v => v.category).sum ≤ 8) (hk : k ≤ mc) (hk2 : n ≤ ms) (d : decode cc pc = .ok (.invokevirtual ix, 3)) (q : Nat) (hq : pc + 3 = q) (kk : ∀ (r : Int32) (u2 : XS), jj_z r → post r u2 → JJ X A Q nL (XP D dA A K u2) k n q lv (.int r :: st)) : JJ X A Q nL (XP D dA A K u) k n pc lv st0 := by
  subst hq
  obtain ⟨h1, h2, h3, h4, h5, h6, h7, h8, h9, h10, h11⟩ := hX
  exact fun H locs ls hP hS hh => va_calli (va_runU ⟨h1, h2, h3, h4, h5⟩ (hM H.size) hcu ⟨jx_blind, jx_recv hY hP hF h1a, jx_pre hY hP hS⟩ rfl hn hh.1 hst (lv_room hw) d ⟨by rw [h10]; exact hk, by rw [h11]; exact hk2⟩) hS (jx_hA1 hP) (jx_sub hY hP hS) (fun r w2 t H1 locs1 ht hvm hp hB hz1 hk1 hS1 => kk r w2 hp.2 hp.1 H1 locs1 ls ⟨by rw [← ht]; exact hB, hP.2⟩ hS1 hh)
theorem js_callNi {X : JC} {A : Nat → Prop} {Q : State → Prop} {P : Heap → Prop} {nL : Nat} {k n pc : Nat} {lv : List (Nat × Value)} {st st0 : List Value} {own : String} {cc : ByteArray} {ret rt : Option FieldType} {F LL mc ms f9 l9 : Nat} {y : MethodName} {bytes : ByteArray} {maxL ix na : Nat} {As : List Value} {host : String} {post : Int32 → Prop} (hX : JX X own cc nL ret F LL mc ms) (hKP : jj_Keeps P) (hN : JN (jj_s X)) (hM : Met (jj_l X) y (ws_ y bytes maxL rt) (jm_rm f9 l9) (js_Pc As) (va_Qi (fun r (_ : Unit) => post r) js_B js_A) 0 0 js_A) (hlk : (Cond.methodLinkNest own ix y host) ∈ jx_nest) (hsta : (Cond.static y) ∈ lw_all) (hini : (Cond.initialized y.cls) ∈ lw_all) (hco : (Cond.code y bytes maxL rt) ∈ lw_all) (hd : y.cls ≠ "java/lang/invoke/MethodHandle" ∧ y.cls ≠ "java/lang/invoke/VarHandle" ∧ (parseMethodDescriptor y.desc).map (fun d => d.parameters.length) = some na) (hn : As.length = na) (hst : st0 = As.reverse ++ st) (hw : (st.map fun v => v.category).sum ≤ 8) (hF : f9 + 1 ≤ F) (hL : 8 + (maxL + 11) + l9 ≤ LL) (hk : k ≤ mc) (hk2 : n ≤ ms) (d : decode cc pc = .ok (.invokestatic ix, 3)) (q : Nat) (hq : pc + 3 = q) (kk : ∀ r : Int32, post r → JJ X A Q nL P k n q lv (.int r :: st)) : JJ X A Q nL P k n pc lv st0 := by
  subst hq
  obtain ⟨h1, h2, h3, h4, h5, h6, h7, h8, h9, h10, h11⟩ := hX
  refine fun H locs ls hP hS hh => va_calli (va_runSN ⟨h1, h2, h3, h4, h5⟩ hM ⟨va_cnB na h5 (lw_meth hco) rfl rfl rfl (va_Nw.of rfl (hN.use (A := #[]) hlk)) (h5 _ hini) hd ⟨by rw [h8]; exact hF, by rw [h9]; exact hL⟩, h5 _ hsta, trivial⟩ ⟨fun a U g mk q => ⟨q.1, trivial⟩, fun U hU hW => ⟨rfl, trivial⟩⟩ rfl hn hh.1 hst (lv_room hw) d ⟨by rw [h10]; exact hk, by rw [h11]; exact hk2⟩) hS (fun q _ h => h.elim) (fun q h => h.elim) (fun r u2 t H1 locs1 ht hvm hp hB hz1 hk1 hS1 => kk r hp H1 locs1 ls (hKP H H1 hP (fun q hq => hk1 q hq (fun h => h)) hz1) hS1 hh)
theorem js_callNz {X : JC} {A : Nat → Prop} {Q : State → Prop} {P : Heap → Prop} {nL : Nat} {k n pc : Nat} {lv : List (Nat × Value)} {st st0 : List Value} {own : String} {cc : ByteArray} {ret rt : Option FieldType} {F LL mc ms f9 l9 : Nat} {y : MethodName} {bytes : ByteArray} {maxL ix na : Nat} {As : List Value} {host : String} {post : Int32 → Prop} (hX : JX X own cc nL ret F LL mc ms) (hKP : jj_Keeps P) (hN : JN (jj_s X)) (hM : Met (jj_l X) y (ws_ y bytes maxL rt) (jm_rm f9 l9) (js_Pc As) (va_Qi (fun r (_ : Unit) => post r ∧ jj_z r) js_B js_A) 0 0 js_A) (hlk : (Cond.methodLinkNest own ix y host) ∈ jx_nest) (hsta : (Cond.static y) ∈ lw_all) (hini : (Cond.initialized y.cls) ∈ lw_all) (hco : (Cond.code y bytes maxL rt) ∈ lw_all) (hd : y.cls ≠ "java/lang/invoke/MethodHandle" ∧ y.cls ≠ "java/lang/invoke/VarHandle" ∧ (parseMethodDescriptor y.desc).map (fun d => d.parameters.length) = some na) (hn : As.length = na) (hst : st0 = As.reverse ++ st) (hw : (st.map fun v => v.category).sum ≤ 8) (hF : f9 + 1 ≤ F) (hL : 8 + (maxL + 11) + l9 ≤ LL) (hk : k ≤ mc) (hk2 : n ≤ ms) (d : decode cc pc = .ok (.invokestatic ix, 3)) (q : Nat) (hq : pc + 3 = q) (kk : ∀ r : Int32, jj_z r → post r → JJ X A Q nL P k n q lv (.int r :: st)) : JJ X A Q nL P k n pc lv st0 := by
  subst hq
  obtain ⟨h1, h2, h3, h4, h5, h6, h7, h8, h9, h10, h11⟩ := hX
  refine fun H locs ls hP hS hh => va_calli (va_runSN ⟨h1, h2, h3, h4, h5⟩ hM ⟨va_cnB na h5 (lw_meth hco) rfl rfl rfl (va_Nw.of rfl (hN.use (A := #[]) hlk)) (h5 _ hini) hd ⟨by rw [h8]; exact hF, by rw [h9]; exact hL⟩, h5 _ hsta, trivial⟩ ⟨fun a U g mk q => ⟨q.1, trivial⟩, fun U hU hW => ⟨rfl, trivial⟩⟩ rfl hn hh.1 hst (lv_room hw) d ⟨by rw [h10]; exact hk, by rw [h11]; exact hk2⟩) hS (fun q _ h => h.elim) (fun q h => h.elim) (fun r u2 t H1 locs1 ht hvm hp hB hz1 hk1 hS1 => kk r hp.2 hp.1 H1 locs1 ls (hKP H H1 hP (fun q hq => hk1 q hq (fun h => h)) hz1) hS1 hh)
theorem js_callNl {X : JC} {A : Nat → Prop} {Q : State → Prop} {P : Heap → Prop} {nL : Nat} {k n pc : Nat} {lv : List (Nat × Value)} {st st0 : List Value} {own : String} {cc : ByteArray} {ret rt : Option FieldType} {F LL mc ms f9 l9 : Nat} {y : MethodName} {bytes : ByteArray} {maxL ix na : Nat} {As : List Value} {host : String} {post : Int64 → Prop} (hX : JX X own cc nL ret F LL mc ms) (hKP : jj_Keeps P) (hN : JN (jj_s X)) (hM : Met (jj_l X) y (ws_ y bytes maxL rt) (jm_rm f9 l9) (js_Pc As) (va_Ql (fun r (_ : Unit) => post r) js_B js_A) 0 0 js_A) (hlk : (Cond.methodLinkNest own ix y host) ∈ jx_nest) (hsta : (Cond.static y) ∈ lw_all) (hini : (Cond.initialized y.cls) ∈ lw_all) (hco : (Cond.code y bytes maxL rt) ∈ lw_all) (hd : y.cls ≠ "java/lang/invoke/MethodHandle" ∧ y.cls ≠ "java/lang/invoke/VarHandle" ∧ (parseMethodDescriptor y.desc).map (fun d => d.parameters.length) = some na) (hn : As.length = na) (hst : st0 = As.reverse ++ st) (hw : (st.map fun v => v.category).sum ≤ 8) (hF : f9 + 1 ≤ F) (hL : 8 + (maxL + 11) + l9 ≤ LL) (hk : k ≤ mc) (hk2 : n ≤ ms) (d : decode cc pc = .ok (.invokestatic ix, 3)) (q : Nat) (hq : pc + 3 = q) (kk : ∀ r : Int64, post r → JJ X A Q nL P k n q lv (.long r :: st)) : JJ X A Q nL P k n pc lv st0 := by
  subst hq
  obtain ⟨h1, h2, h3, h4, h5, h6, h7, h8, h9, h10, h11⟩ := hX
  refine fun H locs ls hP hS hh => va_calll (va_runSN ⟨h1, h2, h3, h4, h5⟩ hM ⟨va_cnB na h5 (lw_meth hco) rfl rfl rfl (va_Nw.of rfl (hN.use (A := #[]) hlk)) (h5 _ hini) hd ⟨by rw [h8]; exact hF, by rw [h9]; exact hL⟩, h5 _ hsta, trivial⟩ ⟨fun a U g mk q => ⟨q.1, trivial⟩, fun U hU hW => ⟨rfl, trivial⟩⟩ rfl hn hh.1 hst (lv_room hw) d ⟨by rw [h10]; exact hk, by rw [h11]; exact hk2⟩) hS (fun q _ h => h.elim) (fun q h => h.elim) (fun r u2 t H1 locs1 ht hvm hp hB hz1 hk1 hS1 => kk r hp H1 locs1 ls (hKP H H1 hP (fun q hq => hk1 q hq (fun h => h)) hz1) hS1 hh)
theorem jj_iushr {X : JC} {A : Nat → Prop} {Q : State → Prop} {nL : Nat} {P : Heap → Prop} {k n pc : Nat} {lv : List (Nat × Value)} {st : List Value} {own : String} {cc : ByteArray} {ret : Option FieldType} {F LL mc ms : Nat} {x : Int32} {y : Int32} (hX : JX X own cc nL ret F LL mc ms) (d : decode cc pc = .ok (.iushr, 1)) (q : Nat) (hq : pc + 1 = q) (h : JJ X A Q nL P k n q lv (.int (x.toUInt32 >>> (y.toUInt32 &&& Int32.toUInt32 31)).toInt32 :: st)) : JJ X A Q nL P k n pc lv (.int y :: .int x :: st) := by
  subst hq
  exact fun H locs ls hP hS hh => lv_iushr hX.1 hX.2.1 d rfl (h H locs ls hP hS hh)
theorem jj_lushr {X : JC} {A : Nat → Prop} {Q : State → Prop} {nL : Nat} {P : Heap → Prop} {k n pc : Nat} {lv : List (Nat × Value)} {st : List Value} {own : String} {cc : ByteArray} {ret : Option FieldType} {F LL mc ms : Nat} {x : Int64} {y : Int32} (hX : JX X own cc nL ret F LL mc ms) (d : decode cc pc = .ok (.lushr, 1)) (q : Nat) (hq : pc + 1 = q) (h : JJ X A Q nL P k n q lv (.long (x.toUInt64 >>> (y.toInt64.toUInt64 &&& Int64.toUInt64 63)).toInt64 :: st)) : JJ X A Q nL P k n pc lv (.int y :: .long x :: st) := by
  subst hq
  exact fun H locs ls hP hS hh => lv_lushr hX.1 hX.2.1 d rfl (h H locs ls hP hS hh)
theorem jj_lshr {X : JC} {A : Nat → Prop} {Q : State → Prop} {nL : Nat} {P : Heap → Prop} {k n pc : Nat} {lv : List (Nat × Value)} {st : List Value} {own : String} {cc : ByteArray} {ret : Option FieldType} {F LL mc ms : Nat} {x : Int64} {y : Int32} (hX : JX X own cc nL ret F LL mc ms) (d : decode cc pc = .ok (.lshr, 1)) (q : Nat) (hq : pc + 1 = q) (h : JJ X A Q nL P k n q lv (.long (x >>> (y.toInt64 &&& 63)) :: st)) : JJ X A Q nL P k n pc lv (.int y :: .long x :: st) := by
  subst hq
  exact fun H locs ls hP hS hh => lv_lshr hX.1 hX.2.1 d rfl (h H locs ls hP hS hh)
theorem jj_lor {X : JC} {A : Nat → Prop} {Q : State → Prop} {nL : Nat} {P : Heap → Prop} {k n pc : Nat} {lv : List (Nat × Value)} {st : List Value} {own : String} {cc : ByteArray} {ret : Option FieldType} {F LL mc ms : Nat} {x y : Int64} (hX : JX X own cc nL ret F LL mc ms) (d : decode cc pc = .ok (.lor, 1)) (q : Nat) (hq : pc + 1 = q) (h : JJ X A Q nL P k n q lv (.long (x ||| y) :: st)) : JJ X A Q nL P k n pc lv (.long y :: .long x :: st) := by
  subst hq
  exact fun H locs ls hP hS hh => lv_lor hX.1 hX.2.1 d (h H locs ls hP hS hh)
theorem jx_copyi {X : JC} {A : Nat → Prop} {Q : State → Prop} {nL : Nat} {k n pc : Nat} {lv : List (Nat × Value)} {st : List Value} {own : String} {cc : ByteArray} {ret : Option FieldType} {F LL mc ms ix : Nat} {D : va_G} {dA aK aV : Nat → Nat} {K : XK} {u : XS} {t : Nat} {a0 a1 n0 n1 : Nat} {sp dp len : Int32} (hX : JX X own cc nL ret F LL mc ms) (hY : JY X D dA aK aV A) (k0 : K a0 = (t + 2, n0)) (k1 : K a1 = (t + 2, n1)) (ht : t < 3) (hlk : (Cond.methodLink own ix arraycopyName) ∈ lw_all) (g1 : ¬ sp < 0) (g2 : ¬ dp < 0) (g3 : ¬ len < 0) (g4 : sp.toNatClampNeg + len.toNatClampNeg ≤ n0) (g5 : dp.toNatClampNeg + len.toNatClampNeg ≤ n1) (hF : 0 + 1 ≤ F) (hL : 8 + (nativeFrameWords "java/lang/System" "arraycopy" 5 + 11) ≤ LL) (hw : (st.map fun v => v.category).sum ≤ 8) (d : decode cc pc = .ok (.invokestatic ix, 3)) (q : Nat) (hq : pc + 3 = q) (h : ∀ u2 : XS, u2 = xcp u a0 sp.toNatClampNeg a1 dp.toNatClampNeg len.toNatClampNeg → JJ X A Q nL (XP D dA A K u2) k n q lv st) : JJ X A Q nL (XP D dA A K u) k n pc lv (.int len :: .int dp :: .ref a1 :: .int sp :: .ref a0 :: st) := by
  subst hq
  obtain ⟨h1, h2, h3, h4, h5, h6, h7, h8, h9, h10, h11⟩ := hX
  have nn : ∀ z : Int32, ¬ z < 0 → z.toInt = (z.toNatClampNeg : Int) := by
    intro z hz
    have hz0 : (0 : Int) ≤ z.toInt := by
      have := Int32.not_lt.mp hz
      simpa using Int32.le_iff_toInt_le.mp this
    show z.toInt = ((z.toInt.toNat : Nat) : Int)
    omega
  intro H locs ls hP hS hh T hT X9
  obtain ⟨h8a, hc0⟩ := hP.1.2.1 a0 t n0 k0
  obtain ⟨-, hc1⟩ := hP.1.2.1 a1 t n1 k1
  obtain ⟨ty, hty⟩ : ∃ ty, jx_tt[t]? = some ty := ⟨_, List.getElem?_eq_getElem (by exact h8a)⟩
  have hel0 : jx_el u t a0 = fun j => .int (u.1 a0 j) := by funext j; simp [jx_el, show ¬ t = 3 by omega, show ¬ 5 ≤ t by omega]
  have hel1 : jx_el u t a1 = fun j => .int (u.1 a1 j) := by funext j; simp [jx_el, show ¬ t = 3 by omega, show ¬ 5 ≤ t by omega]
  rw [hel0] at hc0
  rw [hel1] at hc1
  have hprim : refKind ty = false := by
    match t, ht, hty with | 0, _, e => cases e; rfl | 1, _, e => cases e; rfl | 2, _, e => cases e; rfl
  have hfit : ∀ i : Nat, fits ty (.int (u.1 a0 i)) = true := by
    match t, ht, hty, k0 with | 0, _, e, _ => cases e; exact fun i => rfl | 1, _, e, k => cases e; exact fun i => hP.1.2.2.1 a0 n0 k i | 2, _, e, k => cases e; exact fun i => hP.1.2.2.2 a0 n0 k i
  obtain ⟨-, y0, hk0, cm0, hkk0⟩ := (hY.1.arr hty).1 n0 (fun j => .int (u.1 a0 j))
  obtain ⟨-, y1, hk1, cm1, hkk1⟩ := (hY.1.arr hty).1 n1 (fun j => .int (u.1 a1 j))
  obtain ⟨vm', X', step⟩ := X9.arraycopy h1 h4 (h5 _ hlk) (h5 _ q612) (h5 _ q611) (h5 _ q135) (src := a0) (dst := a1) (srcPos := sp) (destPos := dp) (n := len) (by rw [hT]; exact hc0) (by rw [hT]; exact hc1)
    (fun _ h => by cases h) (fun _ h => by cases h) (fun h => by cases h) (fun h => by cases h) hk0 hk1 hkk0 hkk1 (by simp [hprim]) g1 g2 g3
    (by rw [nn sp g1, nn len g3, arrV_size]; omega)
    (by rw [nn dp g2, nn len g3, arrV_size]; omega)
    (fun vm₁ _ i hi => by
      have e : (arrV (dA t) n0 (fun j => .int (u.1 a0 j))).slots.getD (sp.toNatClampNeg + i) .null = .int (u.1 a0 (sp.toNatClampNeg + i)) := by
        rw [Array.getD_eq_getD_getElem?, arrV_read _ _ (by omega)]
        rfl
      exact ⟨by rw [e]; exact hfit _, by rw [e]; exact trivial⟩)
    (g := F0 (jj_m X) pc ls (.int len :: .int dp :: .ref a1 :: .int sp :: .ref a0 :: st)) rfl (by rw [h3]; exact hh.1) (rest := st) rfl (by rw [h2]; exact d) (by rw [h8]; omega) (by rw [h9]; show 2 * 0 + _ + _ ≤ _; omega)
  have e1 : copied (arrV (dA t) n0 (fun j => .int (u.1 a0 j))) (arrV (dA t) n1 (fun j => .int (u.1 a1 j))) sp dp len = arrV (dA t) n1 (fun j => .int (va_cpy (u.1 a0) (u.1 a1) sp.toNatClampNeg dp.toNatClampNeg len.toNatClampNeg j)) := va_copied (fun z => .int z) (dA t) (dA t) (u.1 a0) (u.1 a1) g4
  rw [e1] at X' step
  generalize hcell : arrV (dA t) n1 (fun j => .int (va_cpy (u.1 a0) (u.1 a1) sp.toNatClampNeg dp.toNatClampNeg len.toNatClampNeg j)) = cell9 at X' step
  have hl : a1 < H.size := (Array.getElem?_eq_some_iff.mp hc1).1
  have hheap : ((T.setVm vm').setCell a1 cell9).heap = H.setIfInBounds a1 cell9 := by rw [← hT]; rfl
  have oq : ∀ q : Nat, q ≠ a1 → (H.setIfInBounds a1 cell9)[q]? = H[q]? := fun q hq => by simp [Array.getElem?_setIfInBounds, Ne.symm hq]
  have hAa : A a1 := hP.2 a1 (by rw [k1]; simp)
  obtain ⟨t, z1, z2⟩ := h _ rfl (H.setIfInBounds a1 cell9) _ ls ⟨hP.1.cpi k0 k1 ht (by rw [hcell]; simp [Array.getElem?_setIfInBounds, hl]) oq, hP.2⟩ ⟨by simp; exact hS.1, fun q g1 g2 => by
      rw [oq q (fun e => g2 (by rw [e]; exact hAa))]
      exact hS.2.1 q g1 g2, fun q hq => by
      rcases List.mem_append.mp hq with h | h
      · exact hS.2.2 q h
      · obtain ⟨z, -, hz⟩ := List.mem_map.mp h
        rw [← hz]
        exact hAa⟩ hh _ hheap X'
  exact ⟨t, step t z1, z2⟩
theorem jx_copyl {X : JC} {A : Nat → Prop} {Q : State → Prop} {nL : Nat} {k n pc : Nat} {lv : List (Nat × Value)} {st : List Value} {own : String} {cc : ByteArray} {ret : Option FieldType} {F LL mc ms ix : Nat} {D : va_G} {dA aK aV : Nat → Nat} {K : XK} {u : XS} {a0 a1 n0 n1 : Nat} {sp dp len : Int32} (hX : JX X own cc nL ret F LL mc ms) (hY : JY X D dA aK aV A) (k0 : K a0 = (5, n0)) (k1 : K a1 = (5, n1)) (hlk : (Cond.methodLink own ix arraycopyName) ∈ lw_all) (g1 : ¬ sp < 0) (g2 : ¬ dp < 0) (g3 : ¬ len < 0) (g4 : sp.toNatClampNeg + len.toNatClampNeg ≤ n0) (g5 : dp.toNatClampNeg + len.toNatClampNeg ≤ n1) (hF : 0 + 1 ≤ F) (hL : 8 + (nativeFrameWords "java/lang/System" "arraycopy" 5 + 11) ≤ LL) (hw : (st.map fun v => v.category).sum ≤ 8) (d : decode cc pc = .ok (.invokestatic ix, 3)) (q : Nat) (hq : pc + 3 = q) (h : ∀ u2 : XS, u2 = xcpl u a0 sp.toNatClampNeg a1 dp.toNatClampNeg len.toNatClampNeg → JJ X A Q nL (XP D dA A K u2) k n q lv st) : JJ X A Q nL (XP D dA A K u) k n pc lv (.int len :: .int dp :: .ref a1 :: .int sp :: .ref a0 :: st) := by
  subst hq
  obtain ⟨h1, h2, h3, h4, h5, h6, h7, h8, h9, h10, h11⟩ := hX
  have nn : ∀ z : Int32, ¬ z < 0 → z.toInt = (z.toNatClampNeg : Int) := by
    intro z hz
    have hz0 : (0 : Int) ≤ z.toInt := by
      have := Int32.not_lt.mp hz
      simpa using Int32.le_iff_toInt_le.mp this
    show z.toInt = ((z.toInt.toNat : Nat) : Int)
    omega
  intro H locs ls hP hS hh T hT X9
  obtain ⟨h8a, hc0⟩ := hP.1.2.1 a0 3 n0 k0
  obtain ⟨-, hc1⟩ := hP.1.2.1 a1 3 n1 k1
  obtain ⟨ty, hty⟩ : ∃ ty, jx_tt[3]? = some ty := ⟨_, List.getElem?_eq_getElem (by exact h8a)⟩
  have hel0 : jx_el u 3 a0 = fun j => .long (u.2.1 a0 j) := by funext j; simp [jx_el]
  have hel1 : jx_el u 3 a1 = fun j => .long (u.2.1 a1 j) := by funext j; simp [jx_el]
  rw [hel0] at hc0
  rw [hel1] at hc1
  have hprim : refKind ty = false := by
    cases hty; rfl
  have hfit : ∀ i : Nat, fits ty (.long (u.2.1 a0 i)) = true := by
    cases hty; exact fun i => rfl
  obtain ⟨-, y0, hk0, cm0, hkk0⟩ := (hY.1.arr hty).1 n0 (fun j => .long (u.2.1 a0 j))
  obtain ⟨-, y1, hk1, cm1, hkk1⟩ := (hY.1.arr hty).1 n1 (fun j => .long (u.2.1 a1 j))
  obtain ⟨vm', X', step⟩ := X9.arraycopy h1 h4 (h5 _ hlk) (h5 _ q612) (h5 _ q611) (h5 _ q135) (src := a0) (dst := a1) (srcPos := sp) (destPos := dp) (n := len) (by rw [hT]; exact hc0) (by rw [hT]; exact hc1)
    (fun _ h => by cases h) (fun _ h => by cases h) (fun h => by cases h) (fun h => by cases h) hk0 hk1 hkk0 hkk1 (by simp [hprim]) g1 g2 g3
    (by rw [nn sp g1, nn len g3, arrV_size]; omega)
    (by rw [nn dp g2, nn len g3, arrV_size]; omega)
    (fun vm₁ _ i hi => by
      have e : (arrV (dA 3) n0 (fun j => .long (u.2.1 a0 j))).slots.getD (sp.toNatClampNeg + i) .null = .long (u.2.1 a0 (sp.toNatClampNeg + i)) := by
        rw [Array.getD_eq_getD_getElem?, arrV_read _ _ (by omega)]
        rfl
      exact ⟨by rw [e]; exact hfit _, by rw [e]; exact trivial⟩)
    (g := F0 (jj_m X) pc ls (.int len :: .int dp :: .ref a1 :: .int sp :: .ref a0 :: st)) rfl (by rw [h3]; exact hh.1) (rest := st) rfl (by rw [h2]; exact d) (by rw [h8]; omega) (by rw [h9]; show 2 * 0 + _ + _ ≤ _; omega)
  have e1 : copied (arrV (dA 3) n0 (fun j => .long (u.2.1 a0 j))) (arrV (dA 3) n1 (fun j => .long (u.2.1 a1 j))) sp dp len = arrV (dA 3) n1 (fun j => .long (va_cpy (u.2.1 a0) (u.2.1 a1) sp.toNatClampNeg dp.toNatClampNeg len.toNatClampNeg j)) := va_copied (fun z => .long z) (dA 3) (dA 3) (u.2.1 a0) (u.2.1 a1) g4
  rw [e1] at X' step
  generalize hcell : arrV (dA 3) n1 (fun j => .long (va_cpy (u.2.1 a0) (u.2.1 a1) sp.toNatClampNeg dp.toNatClampNeg len.toNatClampNeg j)) = cell9 at X' step
  have hl : a1 < H.size := (Array.getElem?_eq_some_iff.mp hc1).1
  have hheap : ((T.setVm vm').setCell a1 cell9).heap = H.setIfInBounds a1 cell9 := by rw [← hT]; rfl
  have oq : ∀ q : Nat, q ≠ a1 → (H.setIfInBounds a1 cell9)[q]? = H[q]? := fun q hq => by simp [Array.getElem?_setIfInBounds, Ne.symm hq]
  have hAa : A a1 := hP.2 a1 (by rw [k1]; simp)
  obtain ⟨t, z1, z2⟩ := h _ rfl (H.setIfInBounds a1 cell9) _ ls ⟨hP.1.cpl k0 k1 (by rw [hcell]; simp [Array.getElem?_setIfInBounds, hl]) oq, hP.2⟩ ⟨by simp; exact hS.1, fun q g1 g2 => by
      rw [oq q (fun e => g2 (by rw [e]; exact hAa))]
      exact hS.2.1 q g1 g2, fun q hq => by
      rcases List.mem_append.mp hq with h | h
      · exact hS.2.2 q h
      · obtain ⟨z, -, hz⟩ := List.mem_map.mp h
        rw [← hz]
        exact hAa⟩ hh _ hheap X'
  exact ⟨t, step t z1, z2⟩
