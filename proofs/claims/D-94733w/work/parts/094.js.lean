/-! String.length and String.charAt on the String constants (by their places), and what they call -/
set_option linter.unusedVariables false
set_option maxRecDepth 100000
def xe_c (i j : Nat) : Int32 := (xe_byt.getD i []).getD j 0
theorem xe_cok : ∀ i, i < 12 → ∀ j, j < xe_len.getD i 0 → ((xe_c i j &&& 255).toUInt32 % 65536).toInt32 = xe_c i j := by decide +kernel
theorem xe_cnar : ∀ i, i < 12 → ∀ j, j < xe_len.getD i 0 → narrow .char (.int (xe_c i j)) = .int (xe_c i j) := by decide +kernel
theorem xe_lsh : ∀ i, i < 12 → (Int32.ofNat (xe_len.getD i 0)) >>> ((0 : Int32) &&& 31) = nI (xe_len.getD i 0) := by decide +kernel
theorem xe_lsm : ∀ i, i < 12 → xe_len.getD i 0 < 2147483648 := by decide +kernel
def jk_Pc (aK aV : Nat → Nat) (As : List Value) : Array Value → State → Prop := va_Pc As (fun U => XE aK aV js_A U U.heap)
theorem jk_start {l : Launch} {y : MethodName} {cc : ByteArray} {nL : Nat} {ret : Option FieldType} {F LL : Nat} {Qc : Array Value → State → Outcome → State → Prop} {aK aV : Nat → Nat} (As : List Value) (lv : List (Nat × Value)) (hy : plainName y.cls = true) (hlen : (lg_sl As).length ≤ nL) (hlv : lv_args 0 As = lv)
    (body : ∀ X : JC, JX X y.cls cc nL ret F LL 0 0 → XE aK aV js_A (jj_s X) (jj_s X).heap → JJ X js_A (jj_Q X Qc 0 0 js_A) nL js_P 0 0 0 lv []) : Met l y (ws_ y cc nL ret) (jm_rm F LL) (jk_Pc aK aV As) Qc 0 0 js_A := by
  refine Met.ofW (cc := cc) (maxL := nL) (ret := ret) hy rfl ?_
  intro p e s m args below meth c s₁ B hml hv
  obtain ⟨rfl, hE⟩ := hv
  have hts := atoms_spec (ws := ws_ y cc nL ret) B.pre
  have hts2 : ∀ w ∈ lw_all, w.before _ s = true := fun w h => hts w (List.mem_cons_of_mem _ h)
  have hl := lv_entry As (n := nL) hlen
  rw [lg_entry_eq]
  rw [hlv] at hl
  exact body (p, l, e, (headSpec (ws_ y cc nL ret) (jm_rm F LL)).room, s, m, _, below, meth, c) ⟨B.exec, B.bytes, hml, findClass_of_methodNamed B.named, hts2, B.notSynchronized, B.returns, rfl, rfl, rfl, rfl⟩ hE s.heap [] _ trivial va_S.rf hl
section JK1
variable {X : JC} {A : Nat → Prop} {Q : State → Prop} {P : Heap → Prop} {nL : Nat} {k n pc : Nat} {lv : List (Nat × Value)} {st st0 : List Value} {own : String} {cc : ByteArray} {ret rt : Option FieldType} {F LL mc ms f9 l9 : Nat} {y : MethodName} {bytes : ByteArray} {maxL ix na i : Nat} {As : List Value} {post : Int32 → Prop} {aK aV : Nat → Nat}
theorem jj_retn {S : Type} {ty : FieldType} {post : Int32 → S → Prop} {B : S → State → Prop} {v : Int32} {u : S} (hX : JX X own cc nL (some ty) F LL mc ms) (d : decode cc pc = .ok (.ireturn, 1)) (hk : k ≤ mc) (hn : n ≤ ms) (hB : ∀ (H : Heap) (t : State), P H → t.heap = H → B u t) (hz : narrow ty (.int v) = .int v) (h : post v u) : JJ X A (jj_Q X (va_Qi post B A) mc ms A) nL P k n pc lv [.int v] :=
  fun H locs ls hP hS hh => W.widen hk hn (W.zret hX.1 hX.2.1 hX.2.2.2.2.2.2.1 hz (fun t ht hW => ⟨⟨v, u, rfl, h, hB H t hP ht⟩, hS.F ht⟩) hS.2.2 d hX.2.2.2.2.2.1)
theorem jj_i2c {x : Int32} (hX : JX X own cc nL ret F LL mc ms) (d : decode cc pc = .ok (.i2c, 1)) (q : Nat) (hq : pc + 1 = q) (h : JJ X A Q nL P k n q lv (.int (x.toUInt32 % 65536).toInt32 :: st)) : JJ X A Q nL P k n pc lv (.int x :: st) := by
  subst hq
  exact fun H locs ls hP hS hh => lv_i2c hX.1 hX.2.1 d rfl (h H locs ls hP hS hh)
theorem jk_getf {nm ds : String} {v : Value} (hX : JX X own cc nL ret F LL mc ms) (hF : va_OF "java/lang/String" nm ds v (aK i) A (jj_s X) (jj_s X).heap) (hlk : (Cond.fieldLink own ix "java/lang/String" nm ds) ∈ lw_all) (d : decode cc pc = .ok (.getfield ix, 3)) (q : Nat) (hq : pc + 3 = q) (h : JJ X A Q nL P k n q lv (v :: st)) : JJ X A Q nL P k n pc lv (.ref (aK i) :: st) := by
  subst hq
  exact fun H locs ls hP hS hh => vk_getf hX.1 hX.2.1 hF hS hX.2.2.2.1 (hX.2.2.2.2.1 _ hlk) (fun _ h => h) d (h H locs ls hP hS hh)
theorem jk_gets {C nm ds : String} {v : Value} (hX : JX X own cc nL ret F LL mc ms) (hZ : va_Z C nm ds v A (jj_s X) (jj_s X).heap) (hlk : (Cond.fieldLink own ix C nm ds) ∈ lw_all) (d : decode cc pc = .ok (.getstatic ix, 3)) (q : Nat) (hq : pc + 3 = q) (h : JJ X A Q nL P k n q lv (v :: st)) : JJ X A Q nL P k n pc lv st := by
  subst hq
  exact fun H locs ls hP hS hh => va_gets hX.1 hX.2.1 hZ hS hX.2.2.2.1 (hX.2.2.2.2.1 _ hlk) (fun _ h => h) d (h H locs ls hP hS hh)
theorem jk_getq {C nm ds : String} (hX : JX X own cc nL ret F LL mc ms) (hZ : va_Zq C nm ds A (jj_s X) (jj_s X).heap) (hlk : (Cond.fieldLink own ix C nm ds) ∈ lw_all) (d : decode cc pc = .ok (.getstatic ix, 3)) (q : Nat) (hq : pc + 3 = q) (h : ∀ v : Value, (v = .null ∨ ∃ t, v = .ref t) → JJ X A Q nL P k n q lv (v :: st)) : JJ X A Q nL P k n pc lv st := by
  rcases hZ with z | ⟨t, z⟩
  · exact jk_gets hX z hlk d q hq (h _ (Or.inl rfl))
  · exact jk_gets hX z hlk d q hq (h _ (Or.inr ⟨t, rfl⟩))
theorem jk_len {b N : Nat} {ty : FieldType} {f : Nat → Value} (hX : JX X own cc nL ret F LL mc ms) (hT : va_T ty b N f A (jj_s X) (jj_s X).heap) (d : decode cc pc = .ok (.arraylength, 1)) (q : Nat) (hq : pc + 1 = q) (h : JJ X A Q nL P k n q lv (.int (Int32.ofNat N) :: st)) : JJ X A Q nL P k n pc lv (.ref b :: st) := by
  subst hq
  exact fun H locs ls hP hS hh => va_tlen hX.1 hX.2.1 hT hS rfl d (h H locs ls hP hS hh)
theorem jk_bald {b N : Nat} {f : Nat → Value} {j : Int32} {v : Value} (hX : JX X own cc nL ret F LL mc ms) (hT : va_T .byte b N f A (jj_s X) (jj_s X).heap) (hin : vp_in j N) (hv : f j.toNatClampNeg = v) (d : decode cc pc = .ok (.baload, 1)) (q : Nat) (hq : pc + 1 = q) (h : JJ X A Q nL P k n q lv (v :: st)) : JJ X A Q nL P k n pc lv (.int j :: .ref b :: st) := by
  subst hq
  exact fun H locs ls hP hS hh => va_tb hX.1 hX.2.1 hT hS hin hv d (h H locs ls hP hS hh)
theorem jk_ldc (hX : JX X own cc nL ret F LL mc ms) (hE : XE aK aV A (jj_s X) (jj_s X).heap) (hi : i < 12) (ho : own = xe_own i) (d : decode cc pc = .ok (.ldc (xe_ix i), 2)) (q : Nat) (hq : pc + 2 = q) (h : JJ X A Q nL P k n q lv (.ref (aK i) :: st)) : JJ X A Q nL P k n pc lv st := by
  subst hq
  subst ho
  exact fun H locs ls hP hS hh => va_ldcS hX.1 hX.2.1 hX.2.2.2.1 (hE.2.2.2.2.2 i hi) d (h H locs ls hP hS hh)
theorem jk_callV (hX : JX X own cc nL ret F LL mc ms) (hE : XE aK aV A (jj_s X) (jj_s X).heap) (hi : i < 12) (hKP : jj_Keeps P) (hM : Met (jj_l X) y (ws_ y bytes maxL rt) (jm_rm f9 l9) (jk_Pc aK aV (.ref (aK i) :: As)) (va_Qi (fun r (_ : Unit) => post r) js_B js_A) 0 0 js_A) (hlk : (Cond.methodLink own ix y) ∈ lw_all) (hin : (Cond.instanceMethod y) ∈ lw_all) (hsel : (Cond.selects "java/lang/String" y y) ∈ lw_all) (hini : (Cond.initialized "java/lang/String") ∈ lw_all) (hco : (Cond.code y bytes maxL rt) ∈ lw_all)
    (hd : y.cls = "java/lang/String" ∧ y.cls ≠ "java/lang/invoke/MethodHandle" ∧ y.cls ≠ "java/lang/invoke/VarHandle" ∧ (parseMethodDescriptor y.desc).map (fun d => d.parameters.length) = some na) (hn : As.length = na) (hst : st0 = As.reverse ++ .ref (aK i) :: st) (hw : (st.map fun v => v.category).sum ≤ 8) (hF : f9 + 1 ≤ F) (hL : 8 + (maxL + 11) + l9 ≤ LL) (hk : k ≤ mc) (hk2 : n ≤ ms) (d : decode cc pc = .ok (.invokevirtual ix, 3)) (q : Nat) (hq : pc + 3 = q) (kk : ∀ r : Int32, post r → JJ X A Q nL P k n q lv (.int r :: st)) : JJ X A Q nL P k n pc lv st0 := by
  subst hq
  obtain ⟨h1, h2, h3, h4, h5, h6, h7, h8, h9, h10, h11⟩ := hX
  refine fun H locs ls hP hS hh => va_calli (va_runV ⟨h1, h2, h3, h4, h5⟩ hM (cwV (C := "java/lang/String") na h5 (lw_V hlk hin hsel hini hco) rfl rfl rfl hd ⟨by rw [h8]; exact hF, by rw [h9]; exact hL⟩) ⟨fun a U g mk q => ⟨q.1, XE.same (u := U) (U := U.calling g mk a) rfl q.2⟩, vk_recv hE.2.2.2.2.1 hi hS, fun U hU hW => ⟨rfl, by show XE aK aV js_A U U.heap; rw [hU]; exact hE.pass hS hW (fun q h => h.elim)⟩⟩ rfl hn hh.1 hst (lv_room hw) d ⟨by rw [h10]; exact hk, by rw [h11]; exact hk2⟩) hS (fun q _ h => h.elim) (fun q h => h.elim) (fun r u2 t H1 locs1 ht hvm hp hB hz1 hk1 hS1 => kk r hp H1 locs1 ls (hKP H H1 hP (fun q hq => hk1 q hq (fun h => h)) hz1) hS1 hh)
theorem jk_callSi (hX : JX X own cc nL ret F LL mc ms) (hE : XE aK aV A (jj_s X) (jj_s X).heap) (hKP : jj_Keeps P) (hM : Met (jj_l X) y (ws_ y bytes maxL rt) (jm_rm f9 l9) (jk_Pc aK aV As) (va_Qi (fun r (_ : Unit) => post r) js_B js_A) 0 0 js_A) (hlk : (Cond.methodLink own ix y) ∈ lw_all) (hsta : (Cond.static y) ∈ lw_all) (hini : (Cond.initialized y.cls) ∈ lw_all) (hco : (Cond.code y bytes maxL rt) ∈ lw_all)
    (hd : y.cls ≠ "java/lang/invoke/MethodHandle" ∧ y.cls ≠ "java/lang/invoke/VarHandle" ∧ (parseMethodDescriptor y.desc).map (fun d => d.parameters.length) = some na) (hn : As.length = na) (hst : st0 = As.reverse ++ st) (hw : (st.map fun v => v.category).sum ≤ 8) (hF : f9 + 1 ≤ F) (hL : 8 + (maxL + 11) + l9 ≤ LL) (hk : k ≤ mc) (hk2 : n ≤ ms) (d : decode cc pc = .ok (.invokestatic ix, 3)) (q : Nat) (hq : pc + 3 = q) (kk : ∀ r : Int32, post r → JJ X A Q nL P k n q lv (.int r :: st)) : JJ X A Q nL P k n pc lv st0 := by
  subst hq
  obtain ⟨h1, h2, h3, h4, h5, h6, h7, h8, h9, h10, h11⟩ := hX
  refine fun H locs ls hP hS hh => va_calli (va_runS ⟨h1, h2, h3, h4, h5⟩ hM (va_cwS na h5 (lw_S hlk hsta hini hco) rfl rfl rfl hd ⟨by rw [h8]; exact hF, by rw [h9]; exact hL⟩) ⟨fun a U g mk q => ⟨q.1, XE.same (u := U) (U := U.calling g mk a) rfl q.2⟩, fun U hU hW => ⟨rfl, by show XE aK aV js_A U U.heap; rw [hU]; exact hE.pass hS hW (fun q h => h.elim)⟩⟩ rfl hn hh.1 hst (lv_room hw) d ⟨by rw [h10]; exact hk, by rw [h11]; exact hk2⟩) hS (fun q _ h => h.elim) (fun q h => h.elim) (fun r u2 t H1 locs1 ht hvm hp hB hz1 hk1 hS1 => kk r hp H1 locs1 ls (hKP H H1 hP (fun q hq => hk1 q hq (fun h => h)) hz1) hS1 hh)
theorem jk_callSv (hX : JX X own cc nL ret F LL mc ms) (hE : XE aK aV A (jj_s X) (jj_s X).heap) (hKP : jj_Keeps P) (hM : Met (jj_l X) y (ws_ y bytes maxL rt) (jm_rm f9 l9) (jk_Pc aK aV As) (va_Qv (fun (_ : Unit) => True) js_B js_A) 0 0 js_A) (hlk : (Cond.methodLink own ix y) ∈ lw_all) (hsta : (Cond.static y) ∈ lw_all) (hini : (Cond.initialized y.cls) ∈ lw_all) (hco : (Cond.code y bytes maxL rt) ∈ lw_all)
    (hd : y.cls ≠ "java/lang/invoke/MethodHandle" ∧ y.cls ≠ "java/lang/invoke/VarHandle" ∧ (parseMethodDescriptor y.desc).map (fun d => d.parameters.length) = some na) (hn : As.length = na) (hst : st0 = As.reverse ++ st) (hw : (st.map fun v => v.category).sum ≤ 8) (hF : f9 + 1 ≤ F) (hL : 8 + (maxL + 11) + l9 ≤ LL) (hk : k ≤ mc) (hk2 : n ≤ ms) (d : decode cc pc = .ok (.invokestatic ix, 3)) (q : Nat) (hq : pc + 3 = q) (kk : JJ X A Q nL P k n q lv st) : JJ X A Q nL P k n pc lv st0 := by
  subst hq
  obtain ⟨h1, h2, h3, h4, h5, h6, h7, h8, h9, h10, h11⟩ := hX
  refine fun H locs ls hP hS hh => va_callv (va_runS ⟨h1, h2, h3, h4, h5⟩ hM (va_cwS na h5 (lw_S hlk hsta hini hco) rfl rfl rfl hd ⟨by rw [h8]; exact hF, by rw [h9]; exact hL⟩) ⟨fun a U g mk q => ⟨q.1, XE.same (u := U) (U := U.calling g mk a) rfl q.2⟩, fun U hU hW => ⟨rfl, by show XE aK aV js_A U U.heap; rw [hU]; exact hE.pass hS hW (fun q h => h.elim)⟩⟩ rfl hn hh.1 hst (lv_room hw) d ⟨by rw [h10]; exact hk, by rw [h11]; exact hk2⟩) hS (fun q _ h => h.elim) (fun q h => h.elim) (fun u2 t H1 locs1 ht hvm hp hB hz1 hk1 hS1 => kk H1 locs1 ls (hKP H H1 hP (fun q hq => hk1 q hq (fun h => h)) hz1) hS1 hh)
end JK1
theorem mjk_check8 (l : Launch) (i L : Int32) (v : Value) (hv : v = .null ∨ ∃ t, v = .ref t) (h0 : ¬ i < 0) (h1 : i < L) : Met l yJ8_checkIndex (ws_ yJ8_checkIndex cJ8_checkIndex 3 (Option.some Jvm.ClassFile.FieldType.int)) (jm_rm 0 0) (js_Pc [.int i, .int L, v]) (va_Qi (fun r (_ : Unit) => r = i) js_B js_A) 0 0 js_A := by
  have body : ∀ lv : List (Nat × Value), lv[0]? = some (0, .int i) → lv[1]? = some (1, .int L) → ∀ X : JC, JX X yJ8_checkIndex.cls cJ8_checkIndex 3 (Option.some Jvm.ClassFile.FieldType.int) 0 0 0 0 → JJ X js_A (jj_Q X (va_Qi (fun r (_ : Unit) => r = i) js_B js_A) 0 0 js_A) 3 js_P 0 0 0 lv [] := by
    intro lv e0 e1 X hX
    refine jj_iload_n hX dJ8_checkIndex_0 0 e0 1 rfl ?_
    refine jj_if_lt hX dJ8_checkIndex_1 9 4 (by decide) rfl (fun c => absurd c h0) (fun _ => ?_)
    refine jj_iload_n hX dJ8_checkIndex_4 0 e0 5 rfl ?_
    refine jj_iload_n hX dJ8_checkIndex_5 1 e1 6 rfl ?_
    refine jj_icmp_lt hX dJ8_checkIndex_6 16 9 (by decide) rfl (fun _ => ?_) (fun c => absurd h1 c)
    refine jj_iload_n hX dJ8_checkIndex_16 0 e0 17 rfl ?_
    exact jj_reti (post := (fun r (_ : Unit) => r = i)) (u := ()) hX dJ8_checkIndex_17 (Nat.le_refl 0) (Nat.le_refl 0) js_hB rfl
  rcases hv with rfl | ⟨t, rfl⟩
  · exact js_start [.int i, .int L, .null] [(0, .int i), (1, .int L), (2, .null)] (by decide) (Nat.le_of_ble_eq_true rfl) rfl (body _ rfl rfl)
  · exact js_start [.int i, .int L, .ref t] [(0, .int i), (1, .int L), (2, .ref t)] (by decide) (Nat.le_of_ble_eq_true rfl) rfl (body _ rfl rfl)
theorem hd_jk_check8 : yJ8_checkIndex.cls ≠ "java/lang/invoke/MethodHandle" ∧ yJ8_checkIndex.cls ≠ "java/lang/invoke/VarHandle" ∧ (parseMethodDescriptor yJ8_checkIndex.desc).map (fun d => d.parameters.length) = some 3 := by decide +kernel
theorem mjk_check4 (l : Launch) (aK aV : Nat → Nat) (i L : Int32) (h0 : ¬ i < 0) (h1 : i < L) : Met l yJ4_checkIndex (ws_ yJ4_checkIndex cJ4_checkIndex 2 (Option.none : Option Jvm.ClassFile.FieldType)) (jm_rm 1 22) (jk_Pc aK aV [.int i, .int L]) (va_Qv (fun (_ : Unit) => True) js_B js_A) 0 0 js_A := by
  refine jk_start [.int i, .int L] [(0, .int i), (1, .int L)] (by decide) (Nat.le_of_ble_eq_true rfl) rfl (fun X hX hE => ?_)
  refine jj_iload_n hX dJ4_checkIndex_0 0 rfl 1 rfl ?_
  refine jj_iload_n hX dJ4_checkIndex_1 1 rfl 2 rfl ?_
  refine jk_getq hX hE.2.2.2.1 q716 dJ4_checkIndex_2 5 rfl (fun v hv => ?_)
  have hc : v.category = 1 := by rcases hv with rfl | ⟨t, rfl⟩ <;> rfl
  refine js_calli (na := 3) (As := [.int i, .int L, v]) hX js_keepP (mjk_check8 (jj_l X) i L v hv h0 h1) q718 q719 q138 q720 hd_jk_check8 rfl rfl (Nat.le_of_ble_eq_true rfl) (Nat.le_of_ble_eq_true rfl) (Nat.le_of_ble_eq_true rfl) (Nat.le_refl 0) (Nat.le_refl 0) dJ4_checkIndex_5 8 rfl (fun r hr => ?_)
  refine jj_pop hX dJ4_checkIndex_8 rfl 9 rfl ?_
  exact jj_retv (post := (fun (_ : Unit) => True)) (u := ()) hX dJ4_checkIndex_9 (Nat.le_refl 0) (Nat.le_refl 0) js_hB trivial
theorem hd_jk_check4 : yJ4_checkIndex.cls ≠ "java/lang/invoke/MethodHandle" ∧ yJ4_checkIndex.cls ≠ "java/lang/invoke/VarHandle" ∧ (parseMethodDescriptor yJ4_checkIndex.desc).map (fun d => d.parameters.length) = some 2 := by decide +kernel
theorem mjk_charAt7 (l : Launch) (aK aV : Nat → Nat) (i j : Nat) (hi : i < 12) (hj : j < xe_len.getD i 0) : Met l yJ7_charAt (ws_ yJ7_charAt cJ7_charAt 2 (Option.some Jvm.ClassFile.FieldType.char)) (jm_rm 2 43) (jk_Pc aK aV [.ref (aV i), .int (nI j)]) (va_Qi (fun r (_ : Unit) => r = xe_c i j) js_B js_A) 0 0 js_A := by
  have hs := xe_lsm i hi
  have h0 : ¬ nI j < 0 := nI_pos (by omega)
  have h1 : nI j < Int32.ofNat (xe_len.getD i 0) := nI_lt hj (by omega)
  refine jk_start [.ref (aV i), .int (nI j)] [(0, .ref (aV i)), (1, .int (nI j))] (by decide) (Nat.le_of_ble_eq_true rfl) rfl (fun X hX hE => ?_)
  have hT := (hE.2.2.2.2.1.1 i hi).2.2.2
  refine jj_iload_n hX dJ7_charAt_0 1 rfl 1 rfl ?_
  refine jj_aload_n hX dJ7_charAt_1 0 rfl 2 rfl ?_
  refine jk_len hX hT dJ7_charAt_2 3 rfl ?_
  refine jk_callSv (na := 2) (As := [.int (nI j), .int (Int32.ofNat (xe_len.getD i 0))]) hX hE js_keepP (mjk_check4 (jj_l X) aK aV _ _ h0 h1) q713 q714 q132 q715 hd_jk_check4 rfl rfl (Nat.le_of_ble_eq_true rfl) (Nat.le_of_ble_eq_true rfl) (Nat.le_of_ble_eq_true rfl) (Nat.le_refl 0) (Nat.le_refl 0) dJ7_charAt_3 6 rfl ?_
  refine jj_aload_n hX dJ7_charAt_6 0 rfl 7 rfl ?_
  refine jj_iload_n hX dJ7_charAt_7 1 rfl 8 rfl ?_
  refine jk_bald hX hT (v := .int (xe_c i j)) (vp_in_nI hj (by omega)) (by rw [nI_clamp (by omega)]; rfl) dJ7_charAt_8 9 rfl ?_
  refine jj_sipush (v := 255) hX dJ7_charAt_9 (by decide) 12 rfl ?_
  refine jj_iand hX dJ7_charAt_12 13 rfl ?_
  refine jj_i2c hX dJ7_charAt_13 14 rfl ?_
  rw [xe_cok i hi j hj]
  exact jj_retn (post := (fun r (_ : Unit) => r = xe_c i j)) (u := ()) hX dJ7_charAt_14 (Nat.le_refl 0) (Nat.le_refl 0) js_hB (xe_cnar i hi j hj) rfl
theorem hd_jk_charAt7 : yJ7_charAt.cls ≠ "java/lang/invoke/MethodHandle" ∧ yJ7_charAt.cls ≠ "java/lang/invoke/VarHandle" ∧ (parseMethodDescriptor yJ7_charAt.desc).map (fun d => d.parameters.length) = some 2 := by decide +kernel
theorem mjk_coder (l : Launch) (aK aV : Nat → Nat) (i : Nat) (hi : i < 12) : Met l yJ4_coder (ws_ yJ4_coder cJ4_coder 1 (Option.some Jvm.ClassFile.FieldType.byte)) (jm_rm 0 0) (jk_Pc aK aV [.ref (aK i)]) (va_Qi (fun r (_ : Unit) => r = 0) js_B js_A) 0 0 js_A := by
  refine jk_start [.ref (aK i)] [(0, .ref (aK i))] (by decide) (Nat.le_of_ble_eq_true rfl) rfl (fun X hX hE => ?_)
  refine jk_gets hX hE.2.2.1 q700 dJ4_coder_0 3 rfl ?_
  refine jj_if_eq hX dJ4_coder_3 13 6 (by decide) rfl (fun c => absurd c (by decide)) (fun _ => ?_)
  refine jj_aload_n hX dJ4_coder_6 0 rfl 7 rfl ?_
  refine jk_getf hX (hE.2.2.2.2.1.1 i hi).2.1 q2206 dJ4_coder_7 10 rfl ?_
  refine jj_goto hX dJ4_coder_10 14 (by decide) ?_
  exact jj_retn (post := (fun r (_ : Unit) => r = 0)) (u := ()) hX dJ4_coder_14 (Nat.le_refl 0) (Nat.le_refl 0) js_hB rfl rfl
theorem hd_jk_coder : yJ4_coder.cls = "java/lang/String" ∧ yJ4_coder.cls ≠ "java/lang/invoke/MethodHandle" ∧ yJ4_coder.cls ≠ "java/lang/invoke/VarHandle" ∧ (parseMethodDescriptor yJ4_coder.desc).map (fun d => d.parameters.length) = some 0 := by decide +kernel
theorem mjk_isLatin1 (l : Launch) (aK aV : Nat → Nat) (i : Nat) (hi : i < 12) : Met l yJ4_isLatin1 (ws_ yJ4_isLatin1 cJ4_isLatin1 1 (Option.some Jvm.ClassFile.FieldType.boolean)) (jm_rm 0 0) (jk_Pc aK aV [.ref (aK i)]) (va_Qi (fun r (_ : Unit) => r = 1) js_B js_A) 0 0 js_A := by
  refine jk_start [.ref (aK i)] [(0, .ref (aK i))] (by decide) (Nat.le_of_ble_eq_true rfl) rfl (fun X hX hE => ?_)
  refine jk_gets hX hE.2.2.1 q700 dJ4_isLatin1_0 3 rfl ?_
  refine jj_if_eq hX dJ4_isLatin1_3 17 6 (by decide) rfl (fun c => absurd c (by decide)) (fun _ => ?_)
  refine jj_aload_n hX dJ4_isLatin1_6 0 rfl 7 rfl ?_
  refine jk_getf hX (hE.2.2.2.2.1.1 i hi).2.1 q2206 dJ4_isLatin1_7 10 rfl ?_
  refine jj_if_ne hX dJ4_isLatin1_10 17 13 (by decide) rfl (fun c => absurd rfl c) (fun _ => ?_)
  refine jj_iconst (v := 1) hX dJ4_isLatin1_13 (by decide) 14 rfl ?_
  refine jj_goto hX dJ4_isLatin1_14 18 (by decide) ?_
  exact jj_retn (post := (fun r (_ : Unit) => r = 1)) (u := ()) hX dJ4_isLatin1_18 (Nat.le_refl 0) (Nat.le_refl 0) js_hB rfl rfl
theorem hd_jk_isLatin1 : yJ4_isLatin1.cls = "java/lang/String" ∧ yJ4_isLatin1.cls ≠ "java/lang/invoke/MethodHandle" ∧ yJ4_isLatin1.cls ≠ "java/lang/invoke/VarHandle" ∧ (parseMethodDescriptor yJ4_isLatin1.desc).map (fun d => d.parameters.length) = some 0 := by decide +kernel
theorem mjk_length (l : Launch) (aK aV : Nat → Nat) (i : Nat) (hi : i < 12) : Met l yJ4_length (ws_ yJ4_length cJ4_length 1 (Option.some Jvm.ClassFile.FieldType.int)) (jm_rm 1 20) (jk_Pc aK aV [.ref (aK i)]) (va_Qi (fun r (_ : Unit) => r = nI (xe_len.getD i 0)) js_B js_A) 0 0 js_A := by
  refine jk_start [.ref (aK i)] [(0, .ref (aK i))] (by decide) (Nat.le_of_ble_eq_true rfl) rfl (fun X hX hE => ?_)
  refine jj_aload_n hX dJ4_length_0 0 rfl 1 rfl ?_
  refine jk_getf hX (hE.2.2.2.2.1.1 i hi).2.2.1 q2205 dJ4_length_1 4 rfl ?_
  refine jk_len hX (hE.2.2.2.2.1.1 i hi).2.2.2 dJ4_length_4 5 rfl ?_
  refine jj_aload_n hX dJ4_length_5 0 rfl 6 rfl ?_
  refine jk_callV (na := 0) (As := []) hX hE hi js_keepP (mjk_coder (jj_l X) aK aV i hi) q696 q697 q698 q132 q699 hd_jk_coder rfl rfl (Nat.le_of_ble_eq_true rfl) (Nat.le_of_ble_eq_true rfl) (Nat.le_of_ble_eq_true rfl) (Nat.le_refl 0) (Nat.le_refl 0) dJ4_length_6 9 rfl (fun r hr => ?_)
  subst hr
  refine jj_ishr hX dJ4_length_9 10 rfl ?_
  exact jj_reti (post := (fun r (_ : Unit) => r = nI (xe_len.getD i 0))) (u := ()) hX dJ4_length_10 (Nat.le_refl 0) (Nat.le_refl 0) js_hB (xe_lsh i hi)
theorem hd_jk_length : yJ4_length.cls = "java/lang/String" ∧ yJ4_length.cls ≠ "java/lang/invoke/MethodHandle" ∧ yJ4_length.cls ≠ "java/lang/invoke/VarHandle" ∧ (parseMethodDescriptor yJ4_length.desc).map (fun d => d.parameters.length) = some 0 := by decide +kernel
theorem mjk_charAt (l : Launch) (aK aV : Nat → Nat) (i j : Nat) (hi : i < 12) (hj : j < xe_len.getD i 0) : Met l yJ4_charAt (ws_ yJ4_charAt cJ4_charAt 2 (Option.some Jvm.ClassFile.FieldType.char)) (jm_rm 3 64) (jk_Pc aK aV [.ref (aK i), .int (nI j)]) (va_Qi (fun r (_ : Unit) => r = xe_c i j) js_B js_A) 0 0 js_A := by
  refine jk_start [.ref (aK i), .int (nI j)] [(0, .ref (aK i)), (1, .int (nI j))] (by decide) (Nat.le_of_ble_eq_true rfl) rfl (fun X hX hE => ?_)
  refine jj_aload_n hX dJ4_charAt_0 0 rfl 1 rfl ?_
  refine jk_callV (na := 0) (As := []) hX hE hi js_keepP (mjk_isLatin1 (jj_l X) aK aV i hi) q706 q707 q708 q132 q709 hd_jk_isLatin1 rfl rfl (Nat.le_of_ble_eq_true rfl) (Nat.le_of_ble_eq_true rfl) (Nat.le_of_ble_eq_true rfl) (Nat.le_refl 0) (Nat.le_refl 0) dJ4_charAt_1 4 rfl (fun r hr => ?_)
  subst hr
  refine jj_if_eq hX dJ4_charAt_4 16 7 (by decide) rfl (fun c => absurd c (by decide)) (fun _ => ?_)
  refine jj_aload_n hX dJ4_charAt_7 0 rfl 8 rfl ?_
  refine jk_getf hX (hE.2.2.2.2.1.1 i hi).2.2.1 q2205 dJ4_charAt_8 11 rfl ?_
  refine jj_iload_n hX dJ4_charAt_11 1 rfl 12 rfl ?_
  refine jk_callSi (na := 2) (As := [.ref (aV i), .int (nI j)]) hX hE js_keepP (mjk_charAt7 (jj_l X) aK aV i j hi hj) q710 q711 q137 q712 hd_jk_charAt7 rfl rfl (Nat.le_of_ble_eq_true rfl) (Nat.le_of_ble_eq_true rfl) (Nat.le_of_ble_eq_true rfl) (Nat.le_refl 0) (Nat.le_refl 0) dJ4_charAt_12 15 rfl (fun r hr => ?_)
  subst hr
  exact jj_retn (post := (fun r (_ : Unit) => r = xe_c i j)) (u := ()) hX dJ4_charAt_15 (Nat.le_refl 0) (Nat.le_refl 0) js_hB (xe_cnar i hi j hj) rfl
theorem hd_jk_charAt : yJ4_charAt.cls = "java/lang/String" ∧ yJ4_charAt.cls ≠ "java/lang/invoke/MethodHandle" ∧ yJ4_charAt.cls ≠ "java/lang/invoke/VarHandle" ∧ (parseMethodDescriptor yJ4_charAt.desc).map (fun d => d.parameters.length) = some 1 := by decide +kernel
section JK2
variable {X : JC} {A : Nat → Prop} {Q : State → Prop} {P : Heap → Prop} {nL : Nat} {k n pc : Nat} {lv : List (Nat × Value)} {st : List Value} {own : String} {cc : ByteArray} {ret : Option FieldType} {F LL mc ms ix i : Nat} {aK aV : Nat → Nat}
theorem kjk_length (hX : JX X own cc nL ret F LL mc ms) (hE : XE aK aV A (jj_s X) (jj_s X).heap) (hKP : jj_Keeps P) (hi : i < 12) (hlk : (Cond.methodLink own ix yJ4_length) ∈ lw_all) (hF : 1 + 1 ≤ F) (hL : 8 + (1 + 11) + 20 ≤ LL) (hk : k ≤ mc) (hk2 : n ≤ ms) (hw : (st.map fun v => v.category).sum ≤ 8) (d : decode cc pc = .ok (.invokevirtual ix, 3)) (q : Nat) (hq : pc + 3 = q) (h : JJ X A Q nL P k n q lv (.int (nI (xe_len.getD i 0)) :: st)) : JJ X A Q nL P k n pc lv (.ref (aK i) :: st) :=
  jk_callV (na := 0) (As := []) hX hE hi hKP (mjk_length (jj_l X) aK aV i hi) hlk q693 q694 q132 q695 hd_jk_length rfl rfl hw hF hL hk hk2 d q hq (fun r hr => by subst hr; exact h)
theorem kjk_charAt {j : Int32} (hX : JX X own cc nL ret F LL mc ms) (hE : XE aK aV A (jj_s X) (jj_s X).heap) (hKP : jj_Keeps P) (hi : i < 12) (hj : vp_in j (xe_len.getD i 0)) (hlk : (Cond.methodLink own ix yJ4_charAt) ∈ lw_all) (hF : 3 + 1 ≤ F) (hL : 8 + (2 + 11) + 64 ≤ LL) (hk : k ≤ mc) (hk2 : n ≤ ms) (hw : (st.map fun v => v.category).sum ≤ 8) (d : decode cc pc = .ok (.invokevirtual ix, 3)) (q : Nat) (hq : pc + 3 = q) (h : JJ X A Q nL P k n q lv (.int (xe_c i j.toNatClampNeg) :: st)) : JJ X A Q nL P k n pc lv (.int j :: .ref (aK i) :: st) := by
  have hs := xe_lsm i hi
  obtain ⟨j2, hj2, rfl⟩ := vp_in_of hj (by omega)
  rw [nI_clamp (by omega)] at h
  exact jk_callV (na := 1) (As := [.int (nI j2)]) hX hE hi hKP (mjk_charAt (jj_l X) aK aV i j2 hi hj2) hlk q703 q704 q132 q705 hd_jk_charAt rfl rfl hw hF hL hk hk2 d q hq (fun r hr => by subst hr; exact h)
end JK2
