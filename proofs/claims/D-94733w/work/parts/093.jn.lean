/-! the machine's throw out of a native method: arraycopy beyond the ends -/
set_option linter.unusedVariables false
set_option maxHeartbeats 1000000 in
/-- follows vx_vmAt, with nativeThrowsMessageColdBareV (Shelf42/NT25.lean) at its end -/
theorem jn_vmAt {p : Program} {l : Launch} {e : Env} {R : Room} {s : State} {m₀ : MethodId} {args : Array Value} {below : List Frame} {meth : Method} {c : Code} {W : State} {locs : List Loc} {cells slots : Nat}
    (X : Stand p l e R s m₀ args below meth c W locs cells slots) (hexec : p.tables.exec = Jvm.exec) (htr : e.platform.stackTraces = false) {cls : String} {names : List String} {text : String}
    (hcls : Bundle.fit cls = true) (hnames : ∀ n ∈ names, Bundle.fit n = true) (hsoe : (cls == "java/lang/StackOverflowError") = false) (hoom : (cls == "java/lang/OutOfMemoryError") = false)
    (h : ∀ a ∈ Bundle.messageArmAtoms cls names, a.before args s = true)
    (hlocs : ∀ x ∈ locs, ∀ cell, s.heap[x.base]? = some cell → cell.vm.isStatics = false)
    (htext : (text == notModelled) = false) (hlimit : ¬ (stringBytes (stringToUtf16 text)).size > e.platform.arrayLengthLimit) (hheap : ¬ (stringBytes (stringToUtf16 text)).size * componentBytes .byte > e.platform.maxHeapBytes)
    {g : JFrame} (hsize : g.locals.size = c.maxLocals) {nf : NFrame} (hnf : nf.words = 0)
    (hRframes : names.length + 5 < R.frames) (hRlocals : 2 * g.monitorRoom + (g.stack.map fun v => v.category).sum + 10240 ≤ R.locals) (hshort : 13 * names.length + 55 ≤ 10240)
    (hRcells : cells + 3 ≤ R.cells) (hRslots : slots + ((stringBytes (stringToUtf16 text)).size + 4 + 6) ≤ R.slots) :
    ∃ (S : State) (q : Addr) (ce : Cell), Steps p.tables e below (W.setFrames (.throwNew cls (some text) none :: .native nf :: .java g :: below)) (S.setFrames (.throwing q :: .native nf :: .java g :: below)) ∧
      Stand p l e R s m₀ args below meth c S locs (cells + 3) (slots + ((stringBytes (stringToUtf16 text)).size + 4 + 6)) ∧ S.heap[q]? = some ce ∧ s.vm.findClass cls = some ce.cls ∧ ce.vm = .none := by
  have howns : e.platform.frameOwnsMonitors = true := by rw [X.admits.platform]
  have hfin : e.platform.finalization = false := by rw [X.admits.platform]
  have hpl : e.platform.magicAccessors = ({} : Platform).magicAccessors := by rw [X.admits.platform]
  have a : ∀ x, x ∈ Bundle.messageArmAtoms cls names → x.holds args s none s [] = true := fun x hx => h x hx
  obtain ⟨T, Z0, L, -, Y⟩ := ThrowableC.of_atoms (args := args) howns hfin hpl (fun x hx => h x (by simp [Bundle.messageArmAtoms, hx]))
  obtain ⟨Z, M, LZ, LM, hnZ⟩ := Init0T.ofS_atoms (args := args) hpl L Y (fun x hx => h x (by simp [Bundle.messageArmAtoms, hx]))
  obtain ⟨P1, Ps, hlen, L1, hL, hP1m, hlink1, hlink⟩ := Bundle.chainS (args := args) hpl hnZ names cls hcls hnames (fun x hx => h x (by simp [Bundle.messageArmAtoms, hx]))
  obtain ⟨Zs, LZs, hn4, hfitv, hfitc⟩ := StringT.of_atoms (args := args) (fun x hx => h x (by simp [Bundle.messageArmAtoms, hx]))
  have hfound : s.vm.findClass cls = some P1.m.cls := findClass_of_methodNamed hP1m
  obtain ⟨c1, kX, hc1, hk, hord, -, -, hn6⟩ := Cond.instantiable_spec (a (.instantiable cls 6) (by simp [Bundle.messageArmAtoms]))
  cases Option.some.inj (hc1.symm.trans hfound)
  have hinit := Cond.initialized_spec hfound hk (a (.initialized cls) (by simp [Bundle.messageArmAtoms]))
  have hctor : kX.findMethod "<init>" "(Ljava/lang/String;)V" = some P1.m.idx := findMethod_of_methodNamed hP1m hk
  have hsel0 : selectMethod e.platform s.vm P1.m.cls T.fill0 = .method T.fill0 := by
    obtain ⟨c2, r2, m2, q1, q2, q3, q4, -⟩ := Cond.selects_spec (a (.selects cls Bundle.tFill0 Bundle.tFill0) (by simp [Bundle.messageArmAtoms]))
    cases Option.some.inj (q1.symm.trans hfound)
    cases Option.some.inj (q2.symm.trans (State.methodFound?_of_named Y.fill0 (by decide)))
    cases Option.some.inj (q3.symm.trans Y.fill0)
    rw [Launch.admits_selectMethod X.admits]; exact q4
  have hselF : selectMethod e.platform s.vm P1.m.cls T.fill = .method T.fill := by
    obtain ⟨c2, r2, m2, q1, q2, q3, q4, -⟩ := Cond.selects_spec (a (.selects cls Bundle.tFill Bundle.tFill) (by simp [Bundle.messageArmAtoms]))
    cases Option.some.inj (q1.symm.trans hfound)
    cases Option.some.inj (q2.symm.trans (State.methodFound?_of_named Y.fill (by decide)))
    cases Option.some.inj (q3.symm.trans Y.fill)
    rw [Launch.admits_selectMethod X.admits]; exact q4
  obtain ⟨cellS0, hcS0, hiss⟩ := Y.statics
  obtain ⟨u0, hu0⟩ := Cond.staticRefV Y.unassigned L.unassignedStatic L.statics hcS0 hiss (a (.isRef (.static Bundle.tN "UNASSIGNED_STACK" Bundle.steD)) (by simp [Bundle.messageArmAtoms]))
  obtain ⟨sen, hsen⟩ := Cond.staticRefV Y.sentinel L.sentinelStatic L.statics hcS0 hiss (a (.isRef (.static Bundle.tN "SUPPRESSED_SENTINEL" Bundle.listD)) (by simp [Bundle.messageArmAtoms]))
  obtain ⟨ci198, i198, fB, hk198, hg198, ha198, hsB, -, hnB, htB, hffB⟩ := Cond.ownField (t := .object "java/lang/Object") Y.found L.cls (by decide +kernel) (a (.fieldLink Bundle.tN 198 Bundle.tN "backtrace" "Ljava/lang/Object;") (by simp [Bundle.messageArmAtoms])) (a (.lays Bundle.tN Bundle.tN "backtrace" "Ljava/lang/Object;") (by simp [Bundle.messageArmAtoms])) e.platform hpl
  obtain ⟨cellS, hcS', heS, -, hkeep⟩ := X.same.2.2.2.2.2 T.aS cellS0 hcS0
  have hcellS : W.heap[T.aS]? = some cellS := hcS'
  have hout' : ∀ i, (⟨T.aS, i⟩ : Loc) ∉ locs := fun i hmem => by
    have := hlocs _ hmem cellS0 hcS0
    rw [hiss] at this; cases this
  have hknownS : cellS.vm ≠ .unknown := by
    rw [heS]; intro hu
    rw [show cellS0.vm = .unknown from hu] at hiss
    cases hiss
  have hvU : cellS.slots[T.fUnassigned.slot]? = some u0.v := by rw [hkeep _ (hout' _)]; exact hu0
  have hvSen : cellS.slots[T.fSentinel.slot]? = some sen.v := by rw [hkeep _ (hout' _)]; exact hsen
  obtain ⟨iM, hffM⟩ := Y.msg
  obtain ⟨tyC, dC, hdC, hdnC⟩ := Cond.laysAt hfound hk Y.cause (a (.lays cls Bundle.tN "cause" "Ljava/lang/Throwable;") (by simp [Bundle.messageArmAtoms]))
  obtain ⟨tyS, dS, hdS, hdnS⟩ := Cond.laysAt hfound hk Y.stack (a (.lays cls Bundle.tN "stackTrace" Bundle.steD) (by simp [Bundle.messageArmAtoms]))
  obtain ⟨tyP, dP, hdP, hdnP⟩ := Cond.laysAt hfound hk Y.supp (a (.lays cls Bundle.tN "suppressedExceptions" Bundle.listD) (by simp [Bundle.messageArmAtoms]))
  obtain ⟨tyM, dM, hdM, hdnM⟩ := Cond.laysAt hfound hk hffM (a (.lays cls Bundle.tN "detailMessage" "Ljava/lang/String;") (by simp [Bundle.messageArmAtoms]))
  obtain ⟨tyB, dB, hdB, hdnB⟩ := Cond.laysAt hfound hk hffB (a (.lays cls Bundle.tN "backtrace" "Ljava/lang/Object;") (by simp [Bundle.messageArmAtoms]))
  have bC := Cond.laysApart hdB hdC hdnB hdnC (by rw [hnB, Y.causeName]; decide)
  have bS := Cond.laysApart hdB hdS hdnB hdnS (by rw [hnB, Y.stackName]; decide)
  have bP := Cond.laysApart hdB hdP hdnB hdnP (by rw [hnB, Y.suppName]; decide)
  have hbk : ((preparedCellV T.toThrowableT (freshCell P1.m.cls kX) (W.heap.size + 2) u0 sen).withEntry W.cur).slots[fB.slot]? = some .null := by
    have := fresh_default (c := P1.m.cls) tyB
    rw [htB] at this
    simpa [preparedCellV, Cell.setSlot, Cell.withEntry, Array.getElem?_setIfInBounds, bC, bS, bP, bC.symm, bS.symm, bP.symm, defaultValue] using this
  have tkC := Takes.of_laid (v := .ref (W.heap.size + 2)) hk hord tyC (by rw [Y.causeType]; rfl)
  have tkS := Takes.of_laid (v := u0.v) hk hord tyS (by rw [Y.stackType]; exact fits_refV_array _ u0)
  have tkP := Takes.of_laid (v := sen.v) hk hord tyP (by rw [Y.suppType]; exact fits_refV_object _ sen)
  have tkM := Takes.of_laid (v := .ref (W.heap.size + 1)) hk hord tyM (by rw [Y.msgType]; rfl)
  have hskip : SkipFacts T e.platform s (fun u => u) u0 ((preparedCellV T.toThrowableT (freshCell P1.m.cls kX) (W.heap.size + 2) u0 sen).withEntry W.cur) := ⟨{ ci198 := ci198, i198 := i198, fBack := fB }, ⟨hk198, hg198, ha198, hsB⟩, hbk, fun _ _ => rfl⟩
  obtain ⟨vm', X5, st, hk9⟩ := X.nativeThrowsMessageColdBareV hexec (g := g) hsize (nf := nf) hnf T L Z LZ M LM Zs LZs P1 L1 Ps hL hlink1 hlink hsoe hoom hfound hk hinit hord hctor htext hlimit hheap (hfitv _) (hfitc _) hsel0 hselF hcellS hknownS hvU hvSen tkC tkS tkP tkM Y.objLocals hskip (fun _ _ hA hW _ hroom _ hrest => L.nativeOff p htr hA hW hroom hrest) (by omega) hRlocals (by omega) hRcells (by rw [hn4, hn6]; omega)
  obtain ⟨-, -, w3, w4, -, -, -⟩ := withThrown_facts e.platform W Zs text P1.m.cls kX
  have ha : (W.heap.size + 2) < ((withThrown W Zs text P1.m.cls kX).setVm vm').heap.size := by show _ < (withThrown W Zs text P1.m.cls kX).heap.size; rw [w3]; omega
  have b1 : (bytesOf Zs.cB (stringToUtf16 text)).slots.size = (stringBytes (stringToUtf16 text)).size := by
    rw [(Cell.writeAll_facts _ _).2.2]; simp [bytes0]
  have b2 : (stringAt Zs.cS Zs.kS Zs.fv Zs.fc (stringToUtf16 text) W.heap.size).slots.size = 4 := by simp [string0, Cell.setSlot, hn4]
  have b3 : (freshCell P1.m.cls kX).slots.size = 6 := by simp [hn6]
  rw [b1, b2, b3] at X5
  have e9 : slots + (stringBytes (stringToUtf16 text)).size + 4 + 6 = slots + ((stringBytes (stringToUtf16 text)).size + 4 + 6) := by omega
  rw [e9] at X5
  refine ⟨((withThrown W Zs text P1.m.cls kX).setVm vm').setCell (W.heap.size + 2) (plainBareV T.toThrowableT (freshCell P1.m.cls kX) (W.heap.size + 2) u0 sen (.ref (W.heap.size + 1))), W.heap.size + 2, _, st, X5.forget (fun y hy => ?_), heapAt_setCell_self _ ha, hfound, rfl⟩
  simp only [List.mem_cons, List.not_mem_nil, or_false] at hy
  have hge : s.heap.size ≤ W.heap.size := X.same.2.1
  rcases hy with rfl | rfl | rfl | rfl | rfl <;> exact Nat.le_trans hge (Nat.le_add_right _ 2)
theorem jn_int {z : Int} (h0 : 0 ≤ z) (h1 : z < 10 ^ 10) : (toString z).toList.length ≤ 10 := by
  obtain ⟨m, rfl⟩ := Int.eq_ofNat_of_zero_le h0
  exact nat_print (n := m) (by omega)
theorem jn_kind (ty : FieldType) : (Native.java_lang_System.arraycopy.kindName ty).toList.length ≤ 12 := by
  cases ty with
  | object c => show ("object array" : String).toList.length ≤ 12; decide
  | array c => show ("object array" : String).toList.length ≤ 12; decide
  | _ => decide
theorem jn_nn {z : Int32} (hz : ¬ z < 0) : 0 ≤ z.toInt ∧ z.toInt = (z.toNatClampNeg : Int) ∧ z.toInt < 2147483648 := by
  have hz0 : (0 : Int) ≤ z.toInt := by
    have := Int32.not_lt.mp hz
    simpa using Int32.le_iff_toInt_le.mp this
  refine ⟨hz0, ?_, Int32.toInt_lt z⟩
  show z.toInt = ((z.toInt.toNat : Nat) : Int)
  omega
theorem jn_text {ty : FieldType} {n0 n1 : Nat} {sp dp len : Int32} {what : String} (g1 : ¬ sp < 0) (g2 : ¬ dp < 0) (g3 : ¬ len < 0) (h0 : n0 < 2147483648) (h1 : n1 < 2147483648) (h : copyFault ty ty n0 n1 sp dp len = some what) :
    (("arraycopy: " ++ what) == notModelled) = false ∧ (stringBytes (stringToUtf16 ("arraycopy: " ++ what))).size ≤ 400 := by
  have a1 := jn_nn g1
  have a2 := jn_nn g2
  have a3 := jn_nn g3
  have hl : what.toList.length ≤ 88 := by
    unfold copyFault at h
    rw [if_neg g1, if_neg g2, if_neg g3] at h
    have k0 := jn_kind ty
    have e0 := nat_print (n := n0) (by omega)
    have e1 := nat_print (n := n1) (by omega)
    split at h
    · have e := Option.some.inj h
      subst e
      have d1 := jn_int (z := sp.toInt + len.toInt) (by omega) (by omega)
      show (toString "last source index " ++ toString (sp.toInt + len.toInt) ++ toString " out of bounds for " ++ toString (toString (Native.java_lang_System.arraycopy.kindName ty) ++ toString "[" ++ toString n0 ++ toString "]")).toList.length ≤ 88
      simp only [String.toList_append, List.length_append]
      have b1 : (toString "last source index ").toList.length = 18 := by decide
      have b2 : (toString " out of bounds for ").toList.length = 19 := by decide
      have b3 : (toString "[").toList.length = 1 := by decide
      have b4 : (toString "]").toList.length = 1 := by decide
      have b5 : (toString (toString (Native.java_lang_System.arraycopy.kindName ty) ++ toString "[" ++ toString n0 ++ toString "]")).toList.length ≤ 24 := by
        show (toString (Native.java_lang_System.arraycopy.kindName ty) ++ toString "[" ++ toString n0 ++ toString "]").toList.length ≤ 24
        simp only [String.toList_append, List.length_append]
        have : (toString (Native.java_lang_System.arraycopy.kindName ty)).toList.length ≤ 12 := k0
        omega
      omega
    · split at h
      · have e := Option.some.inj h
        subst e
        have d1 := jn_int (z := dp.toInt + len.toInt) (by omega) (by omega)
        show (toString "last destination index " ++ toString (dp.toInt + len.toInt) ++ toString " out of bounds for " ++ toString (toString (Native.java_lang_System.arraycopy.kindName ty) ++ toString "[" ++ toString n1 ++ toString "]")).toList.length ≤ 88
        simp only [String.toList_append, List.length_append]
        have b1 : (toString "last destination index ").toList.length = 23 := by decide
        have b2 : (toString " out of bounds for ").toList.length = 19 := by decide
        have b3 : (toString "[").toList.length = 1 := by decide
        have b4 : (toString "]").toList.length = 1 := by decide
        have b5 : (toString (toString (Native.java_lang_System.arraycopy.kindName ty) ++ toString "[" ++ toString n1 ++ toString "]")).toList.length ≤ 24 := by
          show (toString (Native.java_lang_System.arraycopy.kindName ty) ++ toString "[" ++ toString n1 ++ toString "]").toList.length ≤ 24
          simp only [String.toList_append, List.length_append]
          have : (toString (Native.java_lang_System.arraycopy.kindName ty)).toList.length ≤ 12 := k0
          omega
        omega
      · cases h
  constructor
  · rw [beq_eq_false_iff_ne]
    intro h
    have h2 := congrArg String.toList h
    have h3 : ("arraycopy: " ++ what).toList = 'a' :: ("rraycopy: ".toList ++ what.toList) := by
      simp only [String.toList_append]; rfl
    rw [h3] at h2
    have h4 : notModelled.toList = '\u0000' :: " a message that is not modelled".toList := by decide
    rw [h4] at h2
    simp at h2
  · have b1 := stringBytes_size_le (stringToUtf16 ("arraycopy: " ++ what))
    have b2 := utf16_size_le ("arraycopy: " ++ what)
    have b3 : ("arraycopy: " ++ what).toList.length ≤ 99 := by
      simp only [String.toList_append, List.length_append]
      have : "arraycopy: ".toList.length = 11 := by decide
      omega
    omega
section JN9
variable {X : JC} {A : Nat → Prop} {Q : State → Prop} {nL : Nat} {k n pc : Nat} {lv : List (Nat × Value)} {st : List Value} {own : String} {cc : ByteArray} {ret : Option FieldType} {F LL mc ms : Nat} {D : va_G} {dA aK aV : Nat → Nat} {K : XK} {u : XS}
/-- arraycopy beyond an end -/
theorem jv_copyout {ix t a0 a1 n0 n1 : Nat} {sp dp len : Int32} (hX : JX X own cc nL ret F LL mc ms) (hY : JY X D dA aK aV A) (k0 : K a0 = (t + 2, n0)) (k1 : K a1 = (t + 2, n1)) (ht : t < 4) (h0 : n0 < 2147483648) (h1 : n1 < 2147483648) (hlk : (Cond.methodLink own ix arraycopyName) ∈ lw_all) (g1 : ¬ sp < 0) (g2 : ¬ dp < 0) (g3 : ¬ len < 0) (hout : ¬ (sp.toNatClampNeg + len.toNatClampNeg ≤ n0 ∧ dp.toNatClampNeg + len.toNatClampNeg ≤ n1)) (hF : 9 ≤ F) (hL : 10248 ≤ LL) (hw : (st.map fun v => v.category).sum ≤ 8) (hc : k + 3 ≤ mc) (hs : n + 410 ≤ ms) (d : decode cc pc = .ok (.invokestatic ix, 3)) (h : ∀ q, JT X A Q nL (XP D dA A K u) (k + 3) (n + 410) pc lv (jx_en 100) q) : JJ X A Q nL (XP D dA A K u) k n pc lv (.int len :: .int dp :: .ref a1 :: .int sp :: .ref a0 :: st) := by
  have hN := hY.2.1
  have hE := hY.2.2.1
  have hat := jv_words hX hN jv_w1
  obtain ⟨j1, j2, j3, j4, j5, j6, j7, j8, j9, j10, j11⟩ := id hX
  obtain ⟨ty, hty⟩ : ∃ ty, jx_tt[t]? = some ty := ⟨_, List.getElem?_eq_getElem (by show t < 8; omega)⟩
  have hprim : refKind ty = false := by
    match t, ht, hty with | 0, _, e => cases e; rfl | 1, _, e => cases e; rfl | 2, _, e => cases e; rfl | 3, _, e => cases e; rfl
  have a1' := jn_nn g1
  have a2' := jn_nn g2
  have a3' := jn_nn g3
  obtain ⟨what, hwhat⟩ : ∃ what, copyFault ty ty n0 n1 sp dp len = some what := by
    unfold copyFault
    rw [if_neg g1, if_neg g2, if_neg g3]
    by_cases e : sp.toInt + len.toInt > n0
    · rw [if_pos e]; exact ⟨_, rfl⟩
    · rw [if_neg e, if_pos (show dp.toInt + len.toInt > n1 by omega)]; exact ⟨_, rfl⟩
  obtain ⟨htext, hbytes⟩ := jn_text g1 g2 g3 h0 h1 hwhat
  intro H locs ls hP hS hh T hT X9
  have htr : X.2.2.1.platform.stackTraces = false := (show X.2.2.1.platform.stackTraces = (jj_l X).stackTraces by rw [X9.admits.platform]).trans hY.2.2.2.2
  have Y := vx_rebase X9 (R' := { frames := (jj_R X).frames, locals := (jj_R X).locals, cells := 3, slots := 410 }) (Nat.le_refl _) (Nat.le_refl _) (by show k + 3 ≤ (jj_R X).cells; rw [j10]; exact hc) (by show n + 410 ≤ (jj_R X).slots; rw [j11]; exact hs)
  have hW0 : (jj_s X).WarmedH ((T.setVm (jj_s X).vm).setFrames (.invoking (jj_m X) (jj_a X) :: jj_b X)).vm := State.WarmedH.refl (jj_s X)
  have hhp : ((T.setVm (jj_s X).vm).setFrames (.invoking (jj_m X) (jj_a X) :: jj_b X)).heap = H := hT
  generalize hs' : ((T.setVm (jj_s X).vm).setFrames (.invoking (jj_m X) (jj_a X) :: jj_b X)) = s' at Y hW0 hhp
  have hvm' : (jj_s X).vm = s'.vm := by rw [← hs']; rfl
  have hat' : ∀ w ∈ vx_atM "java/lang/ArrayIndexOutOfBoundsException" jv_upI, w.before (jj_a X) s' = true := fun w hw => vx_ot_at hW0 hvm' (List.all_eq_true.mp jv_g1 w hw) (hat w hw)
  have hU' : vx_Zq Bundle.tN "UNASSIGNED_STACK" Bundle.steD A s' s'.heap := by rw [hhp]; exact vx_Zq.moved hW0.alike (hE.1.kept hS.2.1)
  have hN' : vx_Zq Bundle.tN "SUPPRESSED_SENTINEL" Bundle.listD A s' s'.heap := by rw [hhp]; exact vx_Zq.moved hW0.alike (hE.2.1.kept hS.2.1)
  have hw' : ∀ w : Cond, w ∈ lw_all → w.onTables = true → w.before (jj_a X) s' = true := fun w hw ho => vx_ot_at hW0 hvm' (by unfold vx_ot; rw [ho]; rfl) (j5 w hw)
  obtain ⟨-, hc0⟩ := hP.1.2.1 a0 t n0 k0
  obtain ⟨-, hc1⟩ := hP.1.2.1 a1 t n1 k1
  obtain ⟨-, y0, hk0, cm0, hkk0⟩ := (hY.1.arr hty).1 n0 (jx_el u t a0)
  obtain ⟨-, y1, hk1, cm1, hkk1⟩ := (hY.1.arr hty).1 n1 (jx_el u t a1)
  have hK : Free.BackT (jj_l X) { frames := (jj_R X).frames, locals := (jj_R X).locals, cells := 3, slots := 410 } X.1 X.2.2.1 (jj_b X) s' (jj_a X) arraycopyName 3 8
      (fun P9 a9 => a9 = #[.ref a0, .int sp, .ref a1, .int dp, .int len] ∧ P9.U.heap = H ∧ P9.locs = [] ∧ P9.cells = 0 ∧ P9.slots = 0)
      (fun P9 a9 t9 B9 => B9.locs = [] ∧ B9.cells = 3 ∧ B9.slots ≤ 410 ∧ ∃ ce : Cell, B9.U.heap[t9]? = some ce ∧ s'.vm.findClass "java/lang/ArrayIndexOutOfBoundsException" = some ce.cls ∧ ce.vm = .none) := by
    refine Free.BackT.of_native (words := 5) (row := arraycopyRow) (st := true) (ps := [.object "java/lang/Object", .int, .object "java/lang/Object", .int, .int]) (arraycopy_row X.1) (Free.nativeStatic (sargs := jj_a X) (ret := none) (hw' _ q612 rfl) (hw' _ q611 rfl) (by decide +kernel)) (by show 1 ≤ (jj_R X).frames; rw [j8]; omega) (by show 8 + (nativeFrameWords "java/lang/System" "arraycopy" 5 + 11) ≤ (jj_R X).locals; rw [j9]; exact Nat.le_trans (by decide) hL) ?_
    intro m9 meth9 c9 P9 a9 x9 g mk X1 hg hsize hW1 hn9 hst hps hAsk
    obtain ⟨rfl, hH9, hl9, hcc9, hss9⟩ := hAsk
    refine ⟨rfl, by simp [seenByNative, hst, hps, narrow], "java/lang/ArrayIndexOutOfBoundsException", some ("arraycopy: " ++ what), id, fun _ => rfl, rfl, fun fs E hE9 => ?_, ?_⟩
    · rw [arraycopyRow_sem]
      have hal := X1.warmed.alike
      obtain ⟨z0, hz0, ez0⟩ := hal.2.2 _ _ (hvm' ▸ hk0)
      obtain ⟨z1, hz1, ez1⟩ := hal.2.2 _ _ (hvm' ▸ hk1)
      exact Jvm.W.arraycopy_bounds (s := P9.U.setFrames fs) (by show P9.U.heap[a0]? = _; rw [hH9]; exact hc0) (by show P9.U.heap[a1]? = _; rw [hH9]; exact hc1) (fun _ h => by cases h) (fun _ h => by cases h) hz0 hz1 (by rw [ez0]; exact hkk0) (by rw [ez1]; exact hkk1) (by simp [hprim]) (by rw [arrV_size, arrV_size]; exact hwhat) (hE9 _)
    · obtain ⟨S9, q9, ce, hst9, Z9, r1, r2, r3⟩ := jn_vmAt X1 j1 htr (cls := "java/lang/ArrayIndexOutOfBoundsException") (names := jv_upI) (text := "arraycopy: " ++ what) (by decide) (by decide) (by decide) (by decide)
        (vx_own hat' (vx_isRefq hU'.1) (vx_isRefq hN'.1) hU'.2.word hN'.2.word) (fun x hx => by rw [hl9] at hx; cases hx) htext (by rw [Launch.admits_arrayLengthLimit X1.admits]; omega) (by rw [Launch.admits_maxHeapBytes X1.admits]; simp only [componentBytes]; omega) hsize (nf := { method := mk, args := #[.ref a0, .int sp, .ref a1, .int dp, .int len], locked := none }) rfl
        (by show 3 + 5 < (jj_R X).frames; rw [j8]; omega) (by show _ ≤ (jj_R X).locals; rw [j9]; omega) (by decide) (by rw [hcc9]; exact Nat.le_refl 3) (by rw [hss9]; show 0 + (_ + 4 + 6) ≤ 410; omega)
      exact ⟨q9, ⟨S9, P9.locs, P9.cells + 3, P9.slots + ((stringBytes (stringToUtf16 ("arraycopy: " ++ what))).size + 4 + 6)⟩, Z9, ⟨hl9, by show P9.cells + 3 = 3; rw [hcc9], by show P9.slots + _ ≤ 410; rw [hss9]; omega, ce, r1, r2, r3⟩, hst9⟩
  obtain ⟨mk, methM, hnamed, hmethM, hsig⟩ : ∃ mk methM, s'.methodNamed? arraycopyName = some mk ∧ s'.vm.method? mk = some methM ∧ parseMethodDescriptor arraycopyName.desc = some methM.sig := by
    obtain ⟨mk, meth9, f1, f2, -, -, -, f3⟩ := Cond.native_spec (hw' _ q612 rfl)
    exact ⟨mk, meth9, f1, f2, f3⟩
  obtain ⟨q9, vm1, ⟨U9, l9, c9, s9⟩, hW1, Z, ⟨p1, p2, p3, ce, r1, r2, r3⟩, stp⟩ := Stand.staticThrows Y j1 (own := own) (index := ix) (y := arraycopyName) (by rw [← hvm']; exact j4) (hw' _ hlk rfl) (hw' _ q611 rfl) (hw' _ q135 rfl) hnamed hmethM hsig (by decide) hK
    (g := F0 (jj_m X) pc ls (.int len :: .int dp :: .ref a1 :: .int sp :: .ref a0 :: st)) rfl (by show ls.size = _; rw [j3]; exact hh.1) (Steps.refl _) (argsL := [.ref a0, .int sp, .ref a1, .int dp, .int len]) (rest := st) (fun sig hsg => by
      have : parseMethodDescriptor arraycopyName.desc = some { parameters := [.object "java/lang/Object", .int, .object "java/lang/Object", .int, .int], returnType := none } := by decide +kernel
      rw [this] at hsg; cases hsg; rfl) rfl (lv_room hw) (by rw [j2]; exact d) (fun vm1 _ => ⟨rfl, hT, rfl, rfl, rfl⟩)
  dsimp only [Pt.U, Pt.locs, Pt.cells, Pt.slots] at Z p1 p2 p3 r1 stp
  subst p1; subst p2
  rw [← hs'] at Z Y
  obtain ⟨f1, f2⟩ := vx_frame Z.same
  have f1' : H.size ≤ U9.heap.size := by rw [← hT]; exact f1
  have f2' : ∀ q : Nat, q < H.size → U9.heap[q]? = H[q]? := fun q hq => by
    rw [← hT]
    exact f2 q (by rw [← hT] at hq; exact hq) (fun z hz => nomatch hz)
  have X5 := vx_back9 X9 Y Z
  have X6 : Stand X.1 (jj_l X) X.2.2.1 (jj_R X) (jj_s X) (jj_m X) (jj_a X) (jj_b X) (jj_me X) (jj_c X) U9 locs (k + 3) (n + 410) := { X5 with same := X5.same.mono (by omega) (by omega) }
  obtain ⟨t, z1, z2⟩ := h q9 U9.heap locs ls st ce ⟨hP.1.kept fun a ha => f2' a (hP.1.lt ha), hP.2⟩ ⟨Nat.le_trans hS.1 f1', fun q h1 h2 => (f2' q (Nat.lt_of_lt_of_le h1 hS.1)).trans (hS.2.1 q h1 h2), hS.2.2⟩ hh r1 r3 (by rw [hvm']; exact r2) U9 rfl X6
  exact ⟨t, stp.trans z1, z2⟩
/-- arraycopy of rows of any width -/
def jx_cpg (t : Nat) (u : XS) (a0 sp a1 dp n : Nat) : XS := if t = 3 then xcpl u a0 sp a1 dp n else xcp u a0 sp a1 dp n
theorem jx_copyg {ix t a0 a1 n0 n1 : Nat} {sp dp len : Int32} (hX : JX X own cc nL ret F LL mc ms) (hY : JY X D dA aK aV A) (k0 : K a0 = (t + 2, n0)) (k1 : K a1 = (t + 2, n1)) (ht : t < 4) (hlk : (Cond.methodLink own ix arraycopyName) ∈ lw_all) (g1 : ¬ sp < 0) (g2 : ¬ dp < 0) (g3 : ¬ len < 0) (g4 : sp.toNatClampNeg + len.toNatClampNeg ≤ n0) (g5 : dp.toNatClampNeg + len.toNatClampNeg ≤ n1) (hF : 0 + 1 ≤ F) (hL : 8 + (nativeFrameWords "java/lang/System" "arraycopy" 5 + 11) ≤ LL) (hw : (st.map fun v => v.category).sum ≤ 8) (d : decode cc pc = .ok (.invokestatic ix, 3)) (q : Nat) (hq : pc + 3 = q) (h : ∀ u2 : XS, u2 = jx_cpg t u a0 sp.toNatClampNeg a1 dp.toNatClampNeg len.toNatClampNeg → JJ X A Q nL (XP D dA A K u2) k n q lv st) : JJ X A Q nL (XP D dA A K u) k n pc lv (.int len :: .int dp :: .ref a1 :: .int sp :: .ref a0 :: st) := by
  by_cases e : t = 3
  · subst e
    exact jx_copyl hX hY k0 k1 hlk g1 g2 g3 g4 g5 hF hL hw d q hq h
  · exact jx_copyi hX hY k0 k1 (by omega) hlk g1 g2 g3 g4 g5 hF hL hw d q hq (fun u2 e2 => h u2 (by simp only [jx_cpg, e, if_false]; exact e2))
end JN9
