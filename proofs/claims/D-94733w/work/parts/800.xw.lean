set_option linter.unusedVariables false
theorem kc_24 : (24 : Int32).toNatClampNeg = 24 := by decide +kernel
theorem kc_301 : (301 : Int32).toNatClampNeg = 301 := by decide +kernel
theorem kc_800 : (800 : Int32).toNatClampNeg = 800 := by decide +kernel
theorem kc_1400 : (1400 : Int32).toNatClampNeg = 1400 := by decide +kernel
theorem kc_2000 : (2000 : Int32).toNatClampNeg = 2000 := by decide +kernel
/-- RaisedPress$Tray.<init>()V -/
def xw1_init (x0 : Nat) (K : XK) (u : XS) (Post : XS → Prop) : Prop :=
  Post u
set_option maxHeartbeats 4000000 in
set_option maxRecDepth 100000 in
theorem mxw1_init (l : Launch) (hfl : l.stackTraces = false) (D : va_G) (dA aK aV : Nat → Nat) (x0 : Nat) (K : XK) (u : XS) (Post : XS → Prop) (h : xw1_init x0 K u Post) (sz : Nat) : Met l yX1_init (ws_ yX1_init cX1_init 1 (Option.none : Option Jvm.ClassFile.FieldType)) (jx_rm 1 20 0 0) (jx_Pc D dA aK aV K u sz [.ref x0]) (va_Qv (fun w : XS => Post w) (jx_B D dA K) (AX K sz)) 0 0 (AX K sz) := by
  refine jx_start hfl [.ref x0] [(0, .ref x0)] (by decide) (Nat.le_of_ble_eq_true rfl) rfl (fun X hX hY hin => ?_)
  unfold xw1_init at h
  refine jj_aload_n hX dX1_init_0 0 rfl 1 rfl ?_
  refine jj_oinit hX q164 (Nat.le_of_ble_eq_true rfl) (Nat.le_of_ble_eq_true rfl) (Nat.le_of_ble_eq_true rfl) dX1_init_1 4 rfl ?_
  exact jj_retv (post := (fun w : XS => Post w)) (u := u) hX dX1_init_4 (Nat.le_refl 0) (Nat.le_refl 0) jx_hB h
theorem hd_xw1_init : yX1_init.cls ≠ "java/lang/invoke/MethodHandle" ∧ yX1_init.cls ≠ "java/lang/invoke/VarHandle" ∧ (parseMethodDescriptor yX1_init.desc).map (fun d => d.parameters.length) = some 0 := by decide +kernel
theorem kxw1_init {X : JC} {A : Nat → Prop} {Q : State → Prop} {nL k n pc : Nat} {lv : List (Nat × Value)} {st : List Value} {own : String} {cc : ByteArray} {ret : Option FieldType} {F LL mc ms ix : Nat} {D : va_G} {dA aK aV : Nat → Nat} {K : XK} {u : XS} {x0 : Nat} {Post : XS → Prop} (hX : JX X own cc nL ret F LL mc ms) (hY : JY X D dA aK aV A) (hlk : (Cond.methodLink own ix yX1_init) ∈ lw_all) (hF : 1 + 1 ≤ F) (hL : 8 + (1 + 11) + 20 ≤ LL) (hk : k ≤ mc) (hk2 : n ≤ ms) (hw : (st.map fun v => v.category).sum ≤ 8) (d : decode cc pc = .ok (.invokespecial ix, 3)) (q : Nat) (hq : pc + 3 = q) (h : xw1_init x0 K u  Post) (kk : ∀ (u2 : XS), Post u2 → JJ X A Q nL (XP D dA A K u2) k n q lv (st)) : JJ X A Q nL (XP D dA A K u) k n pc lv (.ref x0 :: st) :=
  jx_callIv (na := 0) (As := []) hX hY (fun sz => mxw1_init (jj_l X) hY.2.2.2.2 D dA aK aV x0 K u  Post h sz) hlk q162 q121 rfl q163 hd_xw1_init rfl rfl hw hF hL hk hk2 d q hq kk
theorem knxw1_init {X : JC} {A : Nat → Prop} {Q : State → Prop} {nL k n pc : Nat} {lv : List (Nat × Value)} {st : List Value} {own : String} {cc : ByteArray} {ret : Option FieldType} {F LL mc ms ix : Nat} {D : va_G} {dA aK aV : Nat → Nat} {K : XK} {u : XS} {x0 : Nat} {host : String} {Post : XS → Prop} (hX : JX X own cc nL ret F LL mc ms) (hY : JY X D dA aK aV A) (hlk : (Cond.methodLinkNest own ix yX1_init host) ∈ jx_nest) (hF : 1 + 1 ≤ F) (hL : 8 + (1 + 11) + 20 ≤ LL) (hk : k ≤ mc) (hk2 : n ≤ ms) (hw : (st.map fun v => v.category).sum ≤ 8) (d : decode cc pc = .ok (.invokespecial ix, 3)) (q : Nat) (hq : pc + 3 = q) (h : xw1_init x0 K u  Post) (kk : ∀ (u2 : XS), Post u2 → JJ X A Q nL (XP D dA A K u2) k n q lv (st)) : JJ X A Q nL (XP D dA A K u) k n pc lv (.ref x0 :: st) :=
  jx_callINv (na := 0) (As := []) hX hY (fun sz => mxw1_init (jj_l X) hY.2.2.2.2 D dA aK aV x0 K u  Post h sz) hlk q162 q121 rfl q163 hd_xw1_init rfl rfl hw hF hL hk hk2 d q hq kk
/-- RaisedPress$Table.<init>()V -/
def xw5_init (x0 : Nat) (K : XK) (u : XS) (mc ms : Nat) (Post : XK → XS → Prop) : Prop :=
  1 ≤ mc ∧ 24 ≤ ms ∧ ∀ (b7 : Nat) (K7 : XK) (u7 : XS), (K b7).1 = 0 → K7 = xup K b7 (7, 24) → u7 = xz u b7 →
  K7 x0 = (1, 5) ∧
  ∀ u10 : XS, u10 = xsr u7 x0 0 (some b7) →
  ∀ u15 : XS, u15 = xsi u10 x0 2 (-1 : Int32) →
  ∀ u20 : XS, u20 = xsi u15 x0 3 (-1 : Int32) →
  ∀ u25 : XS, u25 = xsi u20 x0 4 (-1 : Int32) →
  ∀ u31 : XS, u31 = xsi u25 x0 5 (32 : Int32) →
  ∀ u37 : XS, u37 = xsi u31 x0 6 (25 : Int32) →
  Post K7 u37
set_option maxHeartbeats 4000000 in
set_option maxRecDepth 100000 in
theorem mxw5_init (l : Launch) (hfl : l.stackTraces = false) (D : va_G) (dA aK aV : Nat → Nat) (x0 : Nat) (K : XK) (u : XS) (mc ms : Nat) (Post : XK → XS → Prop) (h : xw5_init x0 K u mc ms Post) (sz : Nat) : Met l yX5_init (ws_ yX5_init cX5_init 1 (Option.none : Option Jvm.ClassFile.FieldType)) (jx_rm 1 20 mc ms) (jx_Pc D dA aK aV K u sz [.ref x0]) (va_Qv (fun w : XK × XS => Post w.1 w.2) (jx_BA D dA K sz) (AX K sz)) mc ms (AX K sz) := by
  refine jx_start hfl [.ref x0] [(0, .ref x0)] (by decide) (Nat.le_of_ble_eq_true rfl) rfl (fun X hX hY hin => ?_)
  unfold xw5_init at h
  refine jj_aload_n hX dX5_init_0 0 rfl 1 rfl ?_
  refine jj_oinit hX q270 (Nat.le_of_ble_eq_true rfl) (Nat.le_of_ble_eq_true rfl) (Nat.le_of_ble_eq_true rfl) dX5_init_1 4 rfl ?_
  refine jj_aload_n hX dX5_init_4 0 rfl 5 rfl ?_
  refine jj_bipush hX dX5_init_5 cb_24 7 rfl ?_
  obtain ⟨hc7, hs7, h⟩ := h
  refine jx_newrefs (t := 5) hX hY rfl (by decide) q271 hY.2.1.2.1 (by decide) 24 kc_24 (Nat.le_of_ble_eq_true rfl) hc7 hs7 dX5_init_7 10 rfl (fun b7 K7 u7 hb7 eK7 e7 => ?_)
  have h := h b7 K7 u7 hb7 eK7 e7
  have hleb7 : XLe K K7 := by rw [eK7]; exact XLe.up hb7
  have hl7 := XLe.rf.tr hleb7
  have k7 : K7 b7 = (7, 24) := by rw [eK7]; exact xup_at
  refine jj_cs (k2 := 1) (n2 := 24) rfl rfl ?_
  obtain ⟨k10, h⟩ := h
  refine xpf5_0 (v := (some b7)) hX hY hin rfl k10 dX5_init_10 q273 13 rfl (fun u10 e10 => ?_)
  have h := h u10 e10
  refine jj_aload_n hX dX5_init_13 0 rfl 14 rfl ?_
  refine jj_iconst hX dX5_init_14 ci_m1 15 rfl ?_
  refine xp5_2 hX hY k10 dX5_init_15 q280 18 rfl (fun u15 e15 => ?_)
  have h := h u15 e15
  refine jj_aload_n hX dX5_init_18 0 rfl 19 rfl ?_
  refine jj_iconst hX dX5_init_19 ci_m1 20 rfl ?_
  refine xp5_3 hX hY k10 dX5_init_20 q284 23 rfl (fun u20 e20 => ?_)
  have h := h u20 e20
  refine jj_aload_n hX dX5_init_23 0 rfl 24 rfl ?_
  refine jj_iconst hX dX5_init_24 ci_m1 25 rfl ?_
  refine xp5_4 hX hY k10 dX5_init_25 q288 28 rfl (fun u25 e25 => ?_)
  have h := h u25 e25
  refine jj_aload_n hX dX5_init_28 0 rfl 29 rfl ?_
  refine jj_bipush hX dX5_init_29 cb_32 31 rfl ?_
  refine xp5_5 hX hY k10 dX5_init_31 q292 34 rfl (fun u31 e31 => ?_)
  have h := h u31 e31
  refine jj_aload_n hX dX5_init_34 0 rfl 35 rfl ?_
  refine jj_bipush hX dX5_init_35 cb_25 37 rfl ?_
  refine xp5_6 hX hY k10 dX5_init_37 q296 40 rfl (fun u37 e37 => ?_)
  have h := h u37 e37
  exact jj_retv (post := (fun w : XK × XS => Post w.1 w.2)) (u := (K7, u37)) hX dX5_init_40 hc7 hs7 (jx_hBA hl7) h
theorem hd_xw5_init : yX5_init.cls ≠ "java/lang/invoke/MethodHandle" ∧ yX5_init.cls ≠ "java/lang/invoke/VarHandle" ∧ (parseMethodDescriptor yX5_init.desc).map (fun d => d.parameters.length) = some 0 := by decide +kernel
theorem kxw5_init {X : JC} {A : Nat → Prop} {Q : State → Prop} {nL k n pc : Nat} {lv : List (Nat × Value)} {st : List Value} {own : String} {cc : ByteArray} {ret : Option FieldType} {F LL mc ms ix mc2 ms2 : Nat} {D : va_G} {dA aK aV : Nat → Nat} {K : XK} {u : XS} {x0 : Nat} {Post : XK → XS → Prop} (hX : JX X own cc nL ret F LL mc ms) (hY : JY X D dA aK aV A) (hlk : (Cond.methodLink own ix yX5_init) ∈ lw_all) (hF : 1 + 1 ≤ F) (hL : 8 + (1 + 11) + 20 ≤ LL) (hk : k + mc2 ≤ mc) (hk2 : n + ms2 ≤ ms) (hw : (st.map fun v => v.category).sum ≤ 8) (d : decode cc pc = .ok (.invokespecial ix, 3)) (q : Nat) (hq : pc + 3 = q) (h : xw5_init x0 K u mc2 ms2 Post) (kk : ∀ (K2 : XK) (u2 : XS), XLe K K2 → Post K2 u2 → JJ X A Q nL (XP D dA A K2 u2) (k + mc2) (n + ms2) q lv (st)) : JJ X A Q nL (XP D dA A K u) k n pc lv (.ref x0 :: st) :=
  jx_callIvA (na := 0) (As := []) hX hY (fun sz => mxw5_init (jj_l X) hY.2.2.2.2 D dA aK aV x0 K u mc2 ms2 Post h sz) hlk q268 q127 rfl q269 hd_xw5_init rfl rfl hw hF hL hk hk2 d q hq kk
theorem knxw5_init {X : JC} {A : Nat → Prop} {Q : State → Prop} {nL k n pc : Nat} {lv : List (Nat × Value)} {st : List Value} {own : String} {cc : ByteArray} {ret : Option FieldType} {F LL mc ms ix mc2 ms2 : Nat} {D : va_G} {dA aK aV : Nat → Nat} {K : XK} {u : XS} {x0 : Nat} {host : String} {Post : XK → XS → Prop} (hX : JX X own cc nL ret F LL mc ms) (hY : JY X D dA aK aV A) (hlk : (Cond.methodLinkNest own ix yX5_init host) ∈ jx_nest) (hF : 1 + 1 ≤ F) (hL : 8 + (1 + 11) + 20 ≤ LL) (hk : k + mc2 ≤ mc) (hk2 : n + ms2 ≤ ms) (hw : (st.map fun v => v.category).sum ≤ 8) (d : decode cc pc = .ok (.invokespecial ix, 3)) (q : Nat) (hq : pc + 3 = q) (h : xw5_init x0 K u mc2 ms2 Post) (kk : ∀ (K2 : XK) (u2 : XS), XLe K K2 → Post K2 u2 → JJ X A Q nL (XP D dA A K2 u2) (k + mc2) (n + ms2) q lv (st)) : JJ X A Q nL (XP D dA A K u) k n pc lv (.ref x0 :: st) :=
  jx_callINvA (na := 0) (As := []) hX hY (fun sz => mxw5_init (jj_l X) hY.2.2.2.2 D dA aK aV x0 K u mc2 ms2 Post h sz) hlk q268 q127 rfl q269 hd_xw5_init rfl rfl hw hF hL hk hk2 d q hq kk
/-- RaisedPress$House.<init>()V -/
def xw4_init (x0 : Nat) (K : XK) (u : XS) (mc ms : Nat) (Post : XK → XS → Prop) : Prop :=
  1 ≤ mc ∧ 7 ≤ ms ∧ ∀ (b5 : Nat) (K5 : XK) (u5 : XS), (K b5).1 = 0 → K5 = xup K b5 (1, 5) → u5 = xz u b5 →
  ∃ m9 w9, (1 + m9) ≤ mc ∧ (7 + w9) ≤ ms ∧ xw5_init b5 K5 u5 m9 w9 (fun K9 u9 =>
    K9 x0 = (1, 4) ∧
    ∀ u12 : XS, u12 = xsr u9 x0 0 (some b5) →
    Post K9 u12)
set_option maxHeartbeats 4000000 in
set_option maxRecDepth 100000 in
theorem mxw4_init (l : Launch) (hfl : l.stackTraces = false) (D : va_G) (dA aK aV : Nat → Nat) (x0 : Nat) (K : XK) (u : XS) (mc ms : Nat) (Post : XK → XS → Prop) (h : xw4_init x0 K u mc ms Post) (sz : Nat) : Met l yX4_init (ws_ yX4_init cX4_init 1 (Option.none : Option Jvm.ClassFile.FieldType)) (jx_rm 2 40 mc ms) (jx_Pc D dA aK aV K u sz [.ref x0]) (va_Qv (fun w : XK × XS => Post w.1 w.2) (jx_BA D dA K sz) (AX K sz)) mc ms (AX K sz) := by
  refine jx_start hfl [.ref x0] [(0, .ref x0)] (by decide) (Nat.le_of_ble_eq_true rfl) rfl (fun X hX hY hin => ?_)
  unfold xw4_init at h
  refine jj_aload_n hX dX4_init_0 0 rfl 1 rfl ?_
  refine jj_oinit hX q264 (Nat.le_of_ble_eq_true rfl) (Nat.le_of_ble_eq_true rfl) (Nat.le_of_ble_eq_true rfl) dX4_init_1 4 rfl ?_
  refine jj_aload_n hX dX4_init_4 0 rfl 5 rfl ?_
  obtain ⟨hc5, hs5, h⟩ := h
  refine jx_new hX hY jf5 jd5 q265 q266 q127 hc5 hs5 dX4_init_5 8 rfl (fun b5 K5 u5 hb5 eK5 e5 => ?_)
  have h := h b5 K5 u5 hb5 eK5 e5
  have hleb5 : XLe K K5 := by rw [eK5]; exact XLe.up hb5
  have hl5 := XLe.rf.tr hleb5
  have k5 : K5 b5 = (1, 5) := by rw [eK5]; exact xup_at
  refine jj_cs (k2 := 1) (n2 := 7) rfl rfl ?_
  refine jj_dup hX dX4_init_8 rfl 9 rfl ?_
  obtain ⟨m9, w9, hc9, hs9, h⟩ := h
  refine knxw5_init hX hY nq267 (Nat.le_of_ble_eq_true rfl) (Nat.le_of_ble_eq_true rfl) hc9 hs9 (Nat.le_of_ble_eq_true rfl) dX4_init_9 12 rfl h (fun K9 u9 hle9 h => ?_)
  have k9 := hle9.at k5 (by simp)
  have hl9 := hl5.tr hle9
  refine jj_cs (k2 := (1 + m9)) (n2 := (7 + w9)) (by simp) (by simp) ?_
  obtain ⟨k12, h⟩ := h
  refine xp4_0 (v := (some b5)) hX hY k12 dX4_init_12 q314 15 rfl (fun u12 e12 => ?_)
  have h := h u12 e12
  exact jj_retv (post := (fun w : XK × XS => Post w.1 w.2)) (u := (K9, u12)) hX dX4_init_15 hc9 hs9 (jx_hBA hl9) h
theorem hd_xw4_init : yX4_init.cls ≠ "java/lang/invoke/MethodHandle" ∧ yX4_init.cls ≠ "java/lang/invoke/VarHandle" ∧ (parseMethodDescriptor yX4_init.desc).map (fun d => d.parameters.length) = some 0 := by decide +kernel
theorem kxw4_init {X : JC} {A : Nat → Prop} {Q : State → Prop} {nL k n pc : Nat} {lv : List (Nat × Value)} {st : List Value} {own : String} {cc : ByteArray} {ret : Option FieldType} {F LL mc ms ix mc2 ms2 : Nat} {D : va_G} {dA aK aV : Nat → Nat} {K : XK} {u : XS} {x0 : Nat} {Post : XK → XS → Prop} (hX : JX X own cc nL ret F LL mc ms) (hY : JY X D dA aK aV A) (hlk : (Cond.methodLink own ix yX4_init) ∈ lw_all) (hF : 2 + 1 ≤ F) (hL : 8 + (1 + 11) + 40 ≤ LL) (hk : k + mc2 ≤ mc) (hk2 : n + ms2 ≤ ms) (hw : (st.map fun v => v.category).sum ≤ 8) (d : decode cc pc = .ok (.invokespecial ix, 3)) (q : Nat) (hq : pc + 3 = q) (h : xw4_init x0 K u mc2 ms2 Post) (kk : ∀ (K2 : XK) (u2 : XS), XLe K K2 → Post K2 u2 → JJ X A Q nL (XP D dA A K2 u2) (k + mc2) (n + ms2) q lv (st)) : JJ X A Q nL (XP D dA A K u) k n pc lv (.ref x0 :: st) :=
  jx_callIvA (na := 0) (As := []) hX hY (fun sz => mxw4_init (jj_l X) hY.2.2.2.2 D dA aK aV x0 K u mc2 ms2 Post h sz) hlk q262 q126 rfl q263 hd_xw4_init rfl rfl hw hF hL hk hk2 d q hq kk
theorem knxw4_init {X : JC} {A : Nat → Prop} {Q : State → Prop} {nL k n pc : Nat} {lv : List (Nat × Value)} {st : List Value} {own : String} {cc : ByteArray} {ret : Option FieldType} {F LL mc ms ix mc2 ms2 : Nat} {D : va_G} {dA aK aV : Nat → Nat} {K : XK} {u : XS} {x0 : Nat} {host : String} {Post : XK → XS → Prop} (hX : JX X own cc nL ret F LL mc ms) (hY : JY X D dA aK aV A) (hlk : (Cond.methodLinkNest own ix yX4_init host) ∈ jx_nest) (hF : 2 + 1 ≤ F) (hL : 8 + (1 + 11) + 40 ≤ LL) (hk : k + mc2 ≤ mc) (hk2 : n + ms2 ≤ ms) (hw : (st.map fun v => v.category).sum ≤ 8) (d : decode cc pc = .ok (.invokespecial ix, 3)) (q : Nat) (hq : pc + 3 = q) (h : xw4_init x0 K u mc2 ms2 Post) (kk : ∀ (K2 : XK) (u2 : XS), XLe K K2 → Post K2 u2 → JJ X A Q nL (XP D dA A K2 u2) (k + mc2) (n + ms2) q lv (st)) : JJ X A Q nL (XP D dA A K u) k n pc lv (.ref x0 :: st) :=
  jx_callINvA (na := 0) (As := []) hX hY (fun sz => mxw4_init (jj_l X) hY.2.2.2.2 D dA aK aV x0 K u mc2 ms2 Post h sz) hlk q262 q126 rfl q263 hd_xw4_init rfl rfl hw hF hL hk hk2 d q hq kk
/-- RaisedPress$Setter.<init>(LRaisedPress;LRaisedPress$Table;)V -/
def xw6_init (x0 : Nat) (x1 : Nat) (x2 : Nat) (K : XK) (u : XS) (mc ms : Nat) (Post : XK → XS → Prop) : Prop :=
  K x0 = (1, 6) ∧
  ∀ u2 : XS, u2 = xsr u x0 21 (some x1) →
  1 ≤ mc ∧ 1400 ≤ ms ∧ ∀ (b13 : Nat) (K13 : XK) (u13 : XS), (K b13).1 = 0 → K13 = xup K b13 (2, 1400) → u13 = xz u2 b13 →
  ∀ u15 : XS, u15 = xsr u13 x0 8 (some b13) →
  2 ≤ mc ∧ 1701 ≤ ms ∧ ∀ (b22 : Nat) (K22 : XK) (u22 : XS), (K13 b22).1 = 0 → K22 = xup K13 b22 (2, 301) → u22 = xz u15 b22 →
  ∀ u24 : XS, u24 = xsr u22 x0 9 (some b22) →
  3 ≤ mc ∧ 2002 ≤ ms ∧ ∀ (b31 : Nat) (K31 : XK) (u31 : XS), (K22 b31).1 = 0 → K31 = xup K22 b31 (2, 301) → u31 = xz u24 b31 →
  ∀ u33 : XS, u33 = xsr u31 x0 10 (some b31) →
  4 ≤ mc ∧ 2303 ≤ ms ∧ ∀ (b40 : Nat) (K40 : XK) (u40 : XS), (K31 b40).1 = 0 → K40 = xup K31 b40 (2, 301) → u40 = xz u33 b40 →
  ∀ u42 : XS, u42 = xsr u40 x0 11 (some b40) →
  5 ≤ mc ∧ 2604 ≤ ms ∧ ∀ (b49 : Nat) (K49 : XK) (u49 : XS), (K40 b49).1 = 0 → K49 = xup K40 b49 (2, 301) → u49 = xz u42 b49 →
  ∀ u51 : XS, u51 = xsr u49 x0 12 (some b49) →
  6 ≤ mc ∧ 4004 ≤ ms ∧ ∀ (b58 : Nat) (K58 : XK) (u58 : XS), (K49 b58).1 = 0 → K58 = xup K49 b58 (2, 1400) → u58 = xz u51 b58 →
  ∀ u60 : XS, u60 = xsr u58 x0 13 (some b58) →
  7 ≤ mc ∧ 4028 ≤ ms ∧ ∀ (b66 : Nat) (K66 : XK) (u66 : XS), (K58 b66).1 = 0 → K66 = xup K58 b66 (2, 24) → u66 = xz u60 b66 →
  ∀ u68 : XS, u68 = xsr u66 x0 14 (some b66) →
  8 ≤ mc ∧ 6028 ≤ ms ∧ ∀ (b75 : Nat) (K75 : XK) (u75 : XS), (K66 b75).1 = 0 → K75 = xup K66 b75 (2, 2000) → u75 = xz u68 b75 →
  ∀ u77 : XS, u77 = xsr u75 x0 15 (some b75) →
  9 ≤ mc ∧ 6828 ≤ ms ∧ ∀ (b84 : Nat) (K84 : XK) (u84 : XS), (K75 b84).1 = 0 → K84 = xup K75 b84 (2, 800) → u84 = xz u77 b84 →
  ∀ u86 : XS, u86 = xsr u84 x0 16 (some b84) →
  10 ≤ mc ∧ 7129 ≤ ms ∧ ∀ (b93 : Nat) (K93 : XK) (u93 : XS), (K84 b93).1 = 0 → K93 = xup K84 b93 (2, 301) → u93 = xz u86 b93 →
  ∀ u95 : XS, u95 = xsr u93 x0 20 (some b93) →
  ∀ u100 : XS, u100 = xsr u95 x0 0 (some x2) →
  Post K93 u100
set_option maxHeartbeats 4000000 in
set_option maxRecDepth 100000 in
theorem mxw6_init (l : Launch) (hfl : l.stackTraces = false) (D : va_G) (dA aK aV : Nat → Nat) (x0 : Nat) (x1 : Nat) (x2 : Nat) (K : XK) (u : XS) (mc ms : Nat) (Post : XK → XS → Prop) (h : xw6_init x0 x1 x2 K u mc ms Post) (sz : Nat) : Met l yX6_init (ws_ yX6_init cX6_init 3 (Option.none : Option Jvm.ClassFile.FieldType)) (jx_rm 1 20 mc ms) (jx_Pc D dA aK aV K u sz [.ref x0, .ref x1, .ref x2]) (va_Qv (fun w : XK × XS => Post w.1 w.2) (jx_BA D dA K sz) (AX K sz)) mc ms (AX K sz) := by
  refine jx_start hfl [.ref x0, .ref x1, .ref x2] [(0, .ref x0), (1, .ref x1), (2, .ref x2)] (by decide) (Nat.le_of_ble_eq_true rfl) rfl (fun X hX hY hin => ?_)
  unfold xw6_init at h
  refine jj_aload_n hX dX6_init_0 0 rfl 1 rfl ?_
  refine jj_aload_n hX dX6_init_1 1 rfl 2 rfl ?_
  obtain ⟨k2, h⟩ := h
  refine xpf6_21 (v := (some x1)) hX hY hin rfl k2 dX6_init_2 q361 5 rfl (fun u2 e2 => ?_)
  have h := h u2 e2
  refine jj_aload_n hX dX6_init_5 0 rfl 6 rfl ?_
  refine jj_oinit hX q333 (Nat.le_of_ble_eq_true rfl) (Nat.le_of_ble_eq_true rfl) (Nat.le_of_ble_eq_true rfl) dX6_init_6 9 rfl ?_
  refine jj_aload_n hX dX6_init_9 0 rfl 10 rfl ?_
  refine jj_sipush hX dX6_init_10 cs_1400 13 rfl ?_
  obtain ⟨hc13, hs13, h⟩ := h
  refine jx_na0 hX hY (by decide) 1400 kc_1400 (Nat.le_of_ble_eq_true rfl) hc13 hs13 dX6_init_13 15 rfl (fun b13 K13 u13 hb13 eK13 e13 => ?_)
  have h := h b13 K13 u13 hb13 eK13 e13
  have hleb13 : XLe K K13 := by rw [eK13]; exact XLe.up hb13
  have k13 := hleb13.at k2 (by simp)
  have hl13 := XLe.rf.tr hleb13
  have k13_1 : K13 b13 = (2, 1400) := by rw [eK13]; exact xup_at
  refine jj_cs (k2 := 1) (n2 := 1400) rfl rfl ?_
  refine xpf6_8 (v := (some b13)) hX hY hin rfl k13 dX6_init_15 q347 18 rfl (fun u15 e15 => ?_)
  have h := h u15 e15
  refine jj_aload_n hX dX6_init_18 0 rfl 19 rfl ?_
  refine jj_sipush hX dX6_init_19 cs_301 22 rfl ?_
  obtain ⟨hc22, hs22, h⟩ := h
  refine jx_na0 hX hY (by decide) 301 kc_301 (Nat.le_of_ble_eq_true rfl) hc22 hs22 dX6_init_22 24 rfl (fun b22 K22 u22 hb22 eK22 e22 => ?_)
  have h := h b22 K22 u22 hb22 eK22 e22
  have hleb22 : XLe K13 K22 := by rw [eK22]; exact XLe.up hb22
  have k22 := hleb22.at k13 (by simp)
  have k22_1 := hleb22.at k13_1 (by simp)
  have hl22 := hl13.tr hleb22
  have k22_2 : K22 b22 = (2, 301) := by rw [eK22]; exact xup_at
  refine jj_cs (k2 := 2) (n2 := 1701) rfl rfl ?_
  refine xpf6_9 (v := (some b22)) hX hY hin rfl k22 dX6_init_24 q349 27 rfl (fun u24 e24 => ?_)
  have h := h u24 e24
  refine jj_aload_n hX dX6_init_27 0 rfl 28 rfl ?_
  refine jj_sipush hX dX6_init_28 cs_301 31 rfl ?_
  obtain ⟨hc31, hs31, h⟩ := h
  refine jx_na0 hX hY (by decide) 301 kc_301 (Nat.le_of_ble_eq_true rfl) hc31 hs31 dX6_init_31 33 rfl (fun b31 K31 u31 hb31 eK31 e31 => ?_)
  have h := h b31 K31 u31 hb31 eK31 e31
  have hleb31 : XLe K22 K31 := by rw [eK31]; exact XLe.up hb31
  have k31 := hleb31.at k22 (by simp)
  have k31_1 := hleb31.at k22_1 (by simp)
  have k31_2 := hleb31.at k22_2 (by simp)
  have hl31 := hl22.tr hleb31
  have k31_3 : K31 b31 = (2, 301) := by rw [eK31]; exact xup_at
  refine jj_cs (k2 := 3) (n2 := 2002) rfl rfl ?_
  refine xpf6_10 (v := (some b31)) hX hY hin rfl k31 dX6_init_33 q350 36 rfl (fun u33 e33 => ?_)
  have h := h u33 e33
  refine jj_aload_n hX dX6_init_36 0 rfl 37 rfl ?_
  refine jj_sipush hX dX6_init_37 cs_301 40 rfl ?_
  obtain ⟨hc40, hs40, h⟩ := h
  refine jx_na0 hX hY (by decide) 301 kc_301 (Nat.le_of_ble_eq_true rfl) hc40 hs40 dX6_init_40 42 rfl (fun b40 K40 u40 hb40 eK40 e40 => ?_)
  have h := h b40 K40 u40 hb40 eK40 e40
  have hleb40 : XLe K31 K40 := by rw [eK40]; exact XLe.up hb40
  have k40 := hleb40.at k31 (by simp)
  have k40_1 := hleb40.at k31_1 (by simp)
  have k40_2 := hleb40.at k31_2 (by simp)
  have k40_3 := hleb40.at k31_3 (by simp)
  have hl40 := hl31.tr hleb40
  have k40_4 : K40 b40 = (2, 301) := by rw [eK40]; exact xup_at
  refine jj_cs (k2 := 4) (n2 := 2303) rfl rfl ?_
  refine xpf6_11 (v := (some b40)) hX hY hin rfl k40 dX6_init_42 q351 45 rfl (fun u42 e42 => ?_)
  have h := h u42 e42
  refine jj_aload_n hX dX6_init_45 0 rfl 46 rfl ?_
  refine jj_sipush hX dX6_init_46 cs_301 49 rfl ?_
  obtain ⟨hc49, hs49, h⟩ := h
  refine jx_na0 hX hY (by decide) 301 kc_301 (Nat.le_of_ble_eq_true rfl) hc49 hs49 dX6_init_49 51 rfl (fun b49 K49 u49 hb49 eK49 e49 => ?_)
  have h := h b49 K49 u49 hb49 eK49 e49
  have hleb49 : XLe K40 K49 := by rw [eK49]; exact XLe.up hb49
  have k49 := hleb49.at k40 (by simp)
  have k49_1 := hleb49.at k40_1 (by simp)
  have k49_2 := hleb49.at k40_2 (by simp)
  have k49_3 := hleb49.at k40_3 (by simp)
  have k49_4 := hleb49.at k40_4 (by simp)
  have hl49 := hl40.tr hleb49
  have k49_5 : K49 b49 = (2, 301) := by rw [eK49]; exact xup_at
  refine jj_cs (k2 := 5) (n2 := 2604) rfl rfl ?_
  refine xpf6_12 (v := (some b49)) hX hY hin rfl k49 dX6_init_51 q352 54 rfl (fun u51 e51 => ?_)
  have h := h u51 e51
  refine jj_aload_n hX dX6_init_54 0 rfl 55 rfl ?_
  refine jj_sipush hX dX6_init_55 cs_1400 58 rfl ?_
  obtain ⟨hc58, hs58, h⟩ := h
  refine jx_na0 hX hY (by decide) 1400 kc_1400 (Nat.le_of_ble_eq_true rfl) hc58 hs58 dX6_init_58 60 rfl (fun b58 K58 u58 hb58 eK58 e58 => ?_)
  have h := h b58 K58 u58 hb58 eK58 e58
  have hleb58 : XLe K49 K58 := by rw [eK58]; exact XLe.up hb58
  have k58 := hleb58.at k49 (by simp)
  have k58_1 := hleb58.at k49_1 (by simp)
  have k58_2 := hleb58.at k49_2 (by simp)
  have k58_3 := hleb58.at k49_3 (by simp)
  have k58_4 := hleb58.at k49_4 (by simp)
  have k58_5 := hleb58.at k49_5 (by simp)
  have hl58 := hl49.tr hleb58
  have k58_6 : K58 b58 = (2, 1400) := by rw [eK58]; exact xup_at
  refine jj_cs (k2 := 6) (n2 := 4004) rfl rfl ?_
  refine xpf6_13 (v := (some b58)) hX hY hin rfl k58 dX6_init_60 q353 63 rfl (fun u60 e60 => ?_)
  have h := h u60 e60
  refine jj_aload_n hX dX6_init_63 0 rfl 64 rfl ?_
  refine jj_bipush hX dX6_init_64 cb_24 66 rfl ?_
  obtain ⟨hc66, hs66, h⟩ := h
  refine jx_na0 hX hY (by decide) 24 kc_24 (Nat.le_of_ble_eq_true rfl) hc66 hs66 dX6_init_66 68 rfl (fun b66 K66 u66 hb66 eK66 e66 => ?_)
  have h := h b66 K66 u66 hb66 eK66 e66
  have hleb66 : XLe K58 K66 := by rw [eK66]; exact XLe.up hb66
  have k66 := hleb66.at k58 (by simp)
  have k66_1 := hleb66.at k58_1 (by simp)
  have k66_2 := hleb66.at k58_2 (by simp)
  have k66_3 := hleb66.at k58_3 (by simp)
  have k66_4 := hleb66.at k58_4 (by simp)
  have k66_5 := hleb66.at k58_5 (by simp)
  have k66_6 := hleb66.at k58_6 (by simp)
  have hl66 := hl58.tr hleb66
  have k66_7 : K66 b66 = (2, 24) := by rw [eK66]; exact xup_at
  refine jj_cs (k2 := 7) (n2 := 4028) rfl rfl ?_
  refine xpf6_14 (v := (some b66)) hX hY hin rfl k66 dX6_init_68 q354 71 rfl (fun u68 e68 => ?_)
  have h := h u68 e68
  refine jj_aload_n hX dX6_init_71 0 rfl 72 rfl ?_
  refine jj_sipush hX dX6_init_72 cs_2000 75 rfl ?_
  obtain ⟨hc75, hs75, h⟩ := h
  refine jx_na0 hX hY (by decide) 2000 kc_2000 (Nat.le_of_ble_eq_true rfl) hc75 hs75 dX6_init_75 77 rfl (fun b75 K75 u75 hb75 eK75 e75 => ?_)
  have h := h b75 K75 u75 hb75 eK75 e75
  have hleb75 : XLe K66 K75 := by rw [eK75]; exact XLe.up hb75
  have k75 := hleb75.at k66 (by simp)
  have k75_1 := hleb75.at k66_1 (by simp)
  have k75_2 := hleb75.at k66_2 (by simp)
  have k75_3 := hleb75.at k66_3 (by simp)
  have k75_4 := hleb75.at k66_4 (by simp)
  have k75_5 := hleb75.at k66_5 (by simp)
  have k75_6 := hleb75.at k66_6 (by simp)
  have k75_7 := hleb75.at k66_7 (by simp)
  have hl75 := hl66.tr hleb75
  have k75_8 : K75 b75 = (2, 2000) := by rw [eK75]; exact xup_at
  refine jj_cs (k2 := 8) (n2 := 6028) rfl rfl ?_
  refine xpf6_15 (v := (some b75)) hX hY hin rfl k75 dX6_init_77 q355 80 rfl (fun u77 e77 => ?_)
  have h := h u77 e77
  refine jj_aload_n hX dX6_init_80 0 rfl 81 rfl ?_
  refine jj_sipush hX dX6_init_81 cs_800 84 rfl ?_
  obtain ⟨hc84, hs84, h⟩ := h
  refine jx_na0 hX hY (by decide) 800 kc_800 (Nat.le_of_ble_eq_true rfl) hc84 hs84 dX6_init_84 86 rfl (fun b84 K84 u84 hb84 eK84 e84 => ?_)
  have h := h b84 K84 u84 hb84 eK84 e84
  have hleb84 : XLe K75 K84 := by rw [eK84]; exact XLe.up hb84
  have k84 := hleb84.at k75 (by simp)
  have k84_1 := hleb84.at k75_1 (by simp)
  have k84_2 := hleb84.at k75_2 (by simp)
  have k84_3 := hleb84.at k75_3 (by simp)
  have k84_4 := hleb84.at k75_4 (by simp)
  have k84_5 := hleb84.at k75_5 (by simp)
  have k84_6 := hleb84.at k75_6 (by simp)
  have k84_7 := hleb84.at k75_7 (by simp)
  have k84_8 := hleb84.at k75_8 (by simp)
  have hl84 := hl75.tr hleb84
  have k84_9 : K84 b84 = (2, 800) := by rw [eK84]; exact xup_at
  refine jj_cs (k2 := 9) (n2 := 6828) rfl rfl ?_
  refine xpf6_16 (v := (some b84)) hX hY hin rfl k84 dX6_init_86 q356 89 rfl (fun u86 e86 => ?_)
  have h := h u86 e86
  refine jj_aload_n hX dX6_init_89 0 rfl 90 rfl ?_
  refine jj_sipush hX dX6_init_90 cs_301 93 rfl ?_
  obtain ⟨hc93, hs93, h⟩ := h
  refine jx_na0 hX hY (by decide) 301 kc_301 (Nat.le_of_ble_eq_true rfl) hc93 hs93 dX6_init_93 95 rfl (fun b93 K93 u93 hb93 eK93 e93 => ?_)
  have h := h b93 K93 u93 hb93 eK93 e93
  have hleb93 : XLe K84 K93 := by rw [eK93]; exact XLe.up hb93
  have k93 := hleb93.at k84 (by simp)
  have k93_1 := hleb93.at k84_1 (by simp)
  have k93_2 := hleb93.at k84_2 (by simp)
  have k93_3 := hleb93.at k84_3 (by simp)
  have k93_4 := hleb93.at k84_4 (by simp)
  have k93_5 := hleb93.at k84_5 (by simp)
  have k93_6 := hleb93.at k84_6 (by simp)
  have k93_7 := hleb93.at k84_7 (by simp)
  have k93_8 := hleb93.at k84_8 (by simp)
  have k93_9 := hleb93.at k84_9 (by simp)
  have hl93 := hl84.tr hleb93
  have k93_10 : K93 b93 = (2, 301) := by rw [eK93]; exact xup_at
  refine jj_cs (k2 := 10) (n2 := 7129) rfl rfl ?_
  refine xpf6_20 (v := (some b93)) hX hY hin rfl k93 dX6_init_95 q360 98 rfl (fun u95 e95 => ?_)
  have h := h u95 e95
  refine jj_aload_n hX dX6_init_98 0 rfl 99 rfl ?_
  refine jj_aload_n hX dX6_init_99 2 rfl 100 rfl ?_
  refine xpf6_0 (v := (some x2)) hX hY hin rfl k93 dX6_init_100 q334 103 rfl (fun u100 e100 => ?_)
  have h := h u100 e100
  exact jj_retv (post := (fun w : XK × XS => Post w.1 w.2)) (u := (K93, u100)) hX dX6_init_103 hc93 hs93 (jx_hBA hl93) h
theorem hd_xw6_init : yX6_init.cls ≠ "java/lang/invoke/MethodHandle" ∧ yX6_init.cls ≠ "java/lang/invoke/VarHandle" ∧ (parseMethodDescriptor yX6_init.desc).map (fun d => d.parameters.length) = some 2 := by decide +kernel
theorem kxw6_init {X : JC} {A : Nat → Prop} {Q : State → Prop} {nL k n pc : Nat} {lv : List (Nat × Value)} {st : List Value} {own : String} {cc : ByteArray} {ret : Option FieldType} {F LL mc ms ix mc2 ms2 : Nat} {D : va_G} {dA aK aV : Nat → Nat} {K : XK} {u : XS} {x0 : Nat} {x1 : Nat} {x2 : Nat} {Post : XK → XS → Prop} (hX : JX X own cc nL ret F LL mc ms) (hY : JY X D dA aK aV A) (hlk : (Cond.methodLink own ix yX6_init) ∈ lw_all) (hF : 1 + 1 ≤ F) (hL : 8 + (3 + 11) + 20 ≤ LL) (hk : k + mc2 ≤ mc) (hk2 : n + ms2 ≤ ms) (hw : (st.map fun v => v.category).sum ≤ 8) (d : decode cc pc = .ok (.invokespecial ix, 3)) (q : Nat) (hq : pc + 3 = q) (h : xw6_init x0 x1 x2 K u mc2 ms2 Post) (kk : ∀ (K2 : XK) (u2 : XS), XLe K K2 → Post K2 u2 → JJ X A Q nL (XP D dA A K2 u2) (k + mc2) (n + ms2) q lv (st)) : JJ X A Q nL (XP D dA A K u) k n pc lv (.ref x2 :: .ref x1 :: .ref x0 :: st) :=
  jx_callIvA (na := 2) (As := [.ref x1, .ref x2]) hX hY (fun sz => mxw6_init (jj_l X) hY.2.2.2.2 D dA aK aV x0 x1 x2 K u mc2 ms2 Post h sz) hlk q331 q128 rfl q332 hd_xw6_init rfl rfl hw hF hL hk hk2 d q hq kk
theorem knxw6_init {X : JC} {A : Nat → Prop} {Q : State → Prop} {nL k n pc : Nat} {lv : List (Nat × Value)} {st : List Value} {own : String} {cc : ByteArray} {ret : Option FieldType} {F LL mc ms ix mc2 ms2 : Nat} {D : va_G} {dA aK aV : Nat → Nat} {K : XK} {u : XS} {x0 : Nat} {x1 : Nat} {x2 : Nat} {host : String} {Post : XK → XS → Prop} (hX : JX X own cc nL ret F LL mc ms) (hY : JY X D dA aK aV A) (hlk : (Cond.methodLinkNest own ix yX6_init host) ∈ jx_nest) (hF : 1 + 1 ≤ F) (hL : 8 + (3 + 11) + 20 ≤ LL) (hk : k + mc2 ≤ mc) (hk2 : n + ms2 ≤ ms) (hw : (st.map fun v => v.category).sum ≤ 8) (d : decode cc pc = .ok (.invokespecial ix, 3)) (q : Nat) (hq : pc + 3 = q) (h : xw6_init x0 x1 x2 K u mc2 ms2 Post) (kk : ∀ (K2 : XK) (u2 : XS), XLe K K2 → Post K2 u2 → JJ X A Q nL (XP D dA A K2 u2) (k + mc2) (n + ms2) q lv (st)) : JJ X A Q nL (XP D dA A K u) k n pc lv (.ref x2 :: .ref x1 :: .ref x0 :: st) :=
  jx_callINvA (na := 2) (As := [.ref x1, .ref x2]) hX hY (fun sz => mxw6_init (jj_l X) hY.2.2.2.2 D dA aK aV x0 x1 x2 K u mc2 ms2 Post h sz) hlk q331 q128 rfl q332 hd_xw6_init rfl rfl hw hF hL hk hk2 d q hq kk
/-- RaisedPress.status()I -/
def xw0_status (x0 : Nat) (K : XK) (u : XS) (Post : Int32 → XS → Prop) : Prop :=
  K x0 = (1, 0) ∧
  Post (xi u x0 7) u
set_option maxHeartbeats 4000000 in
set_option maxRecDepth 100000 in
theorem mxw0_status (l : Launch) (hfl : l.stackTraces = false) (D : va_G) (dA aK aV : Nat → Nat) (x0 : Nat) (K : XK) (u : XS) (Post : Int32 → XS → Prop) (h : xw0_status x0 K u Post) (sz : Nat) : Met l yX0_status (ws_ yX0_status cX0_status 1 (Option.some Jvm.ClassFile.FieldType.int)) (jx_rm 0 0 0 0) (jx_Pc D dA aK aV K u sz [.ref x0]) (va_Qi (fun (r : Int32) (w : XS) => Post r w) (jx_B D dA K) (AX K sz)) 0 0 (AX K sz) := by
  refine jx_start hfl [.ref x0] [(0, .ref x0)] (by decide) (Nat.le_of_ble_eq_true rfl) rfl (fun X hX hY hin => ?_)
  unfold xw0_status at h
  refine jj_aload_n hX dX0_status_0 0 rfl 1 rfl ?_
  obtain ⟨k1, h⟩ := h
  refine xg0_7 hX hY k1 dX0_status_1 q418 4 rfl ?_
  exact jj_reti (post := (fun (r : Int32) (w : XS) => Post r w)) (u := u) hX dX0_status_4 (Nat.le_refl 0) (Nat.le_refl 0) jx_hB h
theorem hd_xw0_status : yX0_status.cls ≠ "java/lang/invoke/MethodHandle" ∧ yX0_status.cls ≠ "java/lang/invoke/VarHandle" ∧ (parseMethodDescriptor yX0_status.desc).map (fun d => d.parameters.length) = some 0 := by decide +kernel
theorem kxw0_status {X : JC} {A : Nat → Prop} {Q : State → Prop} {nL k n pc : Nat} {lv : List (Nat × Value)} {st : List Value} {own : String} {cc : ByteArray} {ret : Option FieldType} {F LL mc ms ix : Nat} {D : va_G} {dA aK aV : Nat → Nat} {K : XK} {u : XS} {x0 : Nat} {Post : Int32 → XS → Prop} (hX : JX X own cc nL ret F LL mc ms) (hY : JY X D dA aK aV A) (h1a : K x0 = (1, 0)) (hlk : (Cond.methodLink own ix yX0_status) ∈ lw_all) (hF : 0 + 1 ≤ F) (hL : 8 + (1 + 11) + 0 ≤ LL) (hk : k ≤ mc) (hk2 : n ≤ ms) (hw : (st.map fun v => v.category).sum ≤ 8) (d : decode cc pc = .ok (.invokevirtual ix, 3)) (q : Nat) (hq : pc + 3 = q) (h : xw0_status x0 K u  Post) (kk : ∀ (r : Int32) (u2 : XS), Post r u2 → JJ X A Q nL (XP D dA A K u2) k n q lv (.int r :: st)) : JJ X A Q nL (XP D dA A K u) k n pc lv (.ref x0 :: st) :=
  jx_callVi (na := 0) (As := []) hX hY jf0 h1a (fun sz => mxw0_status (jj_l X) hY.2.2.2.2 D dA aK aV x0 K u  Post h sz) hlk q495 q496 q120 q497 ⟨rfl, hd_xw0_status⟩ rfl rfl hw hF hL hk hk2 d q hq kk
theorem knxw0_status {X : JC} {A : Nat → Prop} {Q : State → Prop} {nL k n pc : Nat} {lv : List (Nat × Value)} {st : List Value} {own : String} {cc : ByteArray} {ret : Option FieldType} {F LL mc ms ix : Nat} {D : va_G} {dA aK aV : Nat → Nat} {K : XK} {u : XS} {x0 : Nat} {host : String} {Post : Int32 → XS → Prop} (hX : JX X own cc nL ret F LL mc ms) (hY : JY X D dA aK aV A) (h1a : K x0 = (1, 0)) (hlk : (Cond.methodLinkNest own ix yX0_status host) ∈ jx_nest) (hF : 0 + 1 ≤ F) (hL : 8 + (1 + 11) + 0 ≤ LL) (hk : k ≤ mc) (hk2 : n ≤ ms) (hw : (st.map fun v => v.category).sum ≤ 8) (d : decode cc pc = .ok (.invokevirtual ix, 3)) (q : Nat) (hq : pc + 3 = q) (h : xw0_status x0 K u  Post) (kk : ∀ (r : Int32) (u2 : XS), Post r u2 → JJ X A Q nL (XP D dA A K u2) k n q lv (.int r :: st)) : JJ X A Q nL (XP D dA A K u) k n pc lv (.ref x0 :: st) :=
  jx_callNi (na := 0) (As := []) hX hY jf0 h1a (fun sz => mxw0_status (jj_l X) hY.2.2.2.2 D dA aK aV x0 K u  Post h sz) hlk q495 q496 q120 q497 hd_xw0_status rfl rfl hw hF hL hk hk2 d q hq kk
/-- RaisedPress.top()J -/
def xw0_top (x0 : Nat) (K : XK) (u : XS) (Post : Int64 → XS → Prop) : Prop :=
  K x0 = (1, 0) ∧
  Post (xl u x0 8) u
set_option maxHeartbeats 4000000 in
set_option maxRecDepth 100000 in
theorem mxw0_top (l : Launch) (hfl : l.stackTraces = false) (D : va_G) (dA aK aV : Nat → Nat) (x0 : Nat) (K : XK) (u : XS) (Post : Int64 → XS → Prop) (h : xw0_top x0 K u Post) (sz : Nat) : Met l yX0_top (ws_ yX0_top cX0_top 1 (Option.some Jvm.ClassFile.FieldType.long)) (jx_rm 0 0 0 0) (jx_Pc D dA aK aV K u sz [.ref x0]) (va_Ql (fun (r : Int64) (w : XS) => Post r w) (jx_B D dA K) (AX K sz)) 0 0 (AX K sz) := by
  refine jx_start hfl [.ref x0] [(0, .ref x0)] (by decide) (Nat.le_of_ble_eq_true rfl) rfl (fun X hX hY hin => ?_)
  unfold xw0_top at h
  refine jj_aload_n hX dX0_top_0 0 rfl 1 rfl ?_
  obtain ⟨k1, h⟩ := h
  refine xg0_8 hX hY k1 dX0_top_1 q419 4 rfl ?_
  exact jj_retl (post := (fun (r : Int64) (w : XS) => Post r w)) (u := u) hX dX0_top_4 (Nat.le_refl 0) (Nat.le_refl 0) jx_hB h
theorem hd_xw0_top : yX0_top.cls ≠ "java/lang/invoke/MethodHandle" ∧ yX0_top.cls ≠ "java/lang/invoke/VarHandle" ∧ (parseMethodDescriptor yX0_top.desc).map (fun d => d.parameters.length) = some 0 := by decide +kernel
theorem kxw0_top {X : JC} {A : Nat → Prop} {Q : State → Prop} {nL k n pc : Nat} {lv : List (Nat × Value)} {st : List Value} {own : String} {cc : ByteArray} {ret : Option FieldType} {F LL mc ms ix : Nat} {D : va_G} {dA aK aV : Nat → Nat} {K : XK} {u : XS} {x0 : Nat} {Post : Int64 → XS → Prop} (hX : JX X own cc nL ret F LL mc ms) (hY : JY X D dA aK aV A) (h1a : K x0 = (1, 0)) (hlk : (Cond.methodLink own ix yX0_top) ∈ lw_all) (hF : 0 + 1 ≤ F) (hL : 8 + (1 + 11) + 0 ≤ LL) (hk : k ≤ mc) (hk2 : n ≤ ms) (hw : (st.map fun v => v.category).sum ≤ 8) (d : decode cc pc = .ok (.invokevirtual ix, 3)) (q : Nat) (hq : pc + 3 = q) (h : xw0_top x0 K u  Post) (kk : ∀ (r : Int64) (u2 : XS), Post r u2 → JJ X A Q nL (XP D dA A K u2) k n q lv (.long r :: st)) : JJ X A Q nL (XP D dA A K u) k n pc lv (.ref x0 :: st) :=
  jx_callVl (na := 0) (As := []) hX hY jf0 h1a (fun sz => mxw0_top (jj_l X) hY.2.2.2.2 D dA aK aV x0 K u  Post h sz) hlk q499 q500 q120 q501 ⟨rfl, hd_xw0_top⟩ rfl rfl hw hF hL hk hk2 d q hq kk
theorem knxw0_top {X : JC} {A : Nat → Prop} {Q : State → Prop} {nL k n pc : Nat} {lv : List (Nat × Value)} {st : List Value} {own : String} {cc : ByteArray} {ret : Option FieldType} {F LL mc ms ix : Nat} {D : va_G} {dA aK aV : Nat → Nat} {K : XK} {u : XS} {x0 : Nat} {host : String} {Post : Int64 → XS → Prop} (hX : JX X own cc nL ret F LL mc ms) (hY : JY X D dA aK aV A) (h1a : K x0 = (1, 0)) (hlk : (Cond.methodLinkNest own ix yX0_top host) ∈ jx_nest) (hF : 0 + 1 ≤ F) (hL : 8 + (1 + 11) + 0 ≤ LL) (hk : k ≤ mc) (hk2 : n ≤ ms) (hw : (st.map fun v => v.category).sum ≤ 8) (d : decode cc pc = .ok (.invokevirtual ix, 3)) (q : Nat) (hq : pc + 3 = q) (h : xw0_top x0 K u  Post) (kk : ∀ (r : Int64) (u2 : XS), Post r u2 → JJ X A Q nL (XP D dA A K u2) k n q lv (.long r :: st)) : JJ X A Q nL (XP D dA A K u) k n pc lv (.ref x0 :: st) :=
  jx_callNl (na := 0) (As := []) hX hY jf0 h1a (fun sz => mxw0_top (jj_l X) hY.2.2.2.2 D dA aK aV x0 K u  Post h sz) hlk q499 q500 q120 q501 hd_xw0_top rfl rfl hw hF hL hk hk2 d q hq kk
/-- RaisedPress.bottom()J -/
def xw0_bottom (x0 : Nat) (K : XK) (u : XS) (Post : Int64 → XS → Prop) : Prop :=
  K x0 = (1, 0) ∧
  Post (xl u x0 9) u
set_option maxHeartbeats 4000000 in
set_option maxRecDepth 100000 in
theorem mxw0_bottom (l : Launch) (hfl : l.stackTraces = false) (D : va_G) (dA aK aV : Nat → Nat) (x0 : Nat) (K : XK) (u : XS) (Post : Int64 → XS → Prop) (h : xw0_bottom x0 K u Post) (sz : Nat) : Met l yX0_bottom (ws_ yX0_bottom cX0_bottom 1 (Option.some Jvm.ClassFile.FieldType.long)) (jx_rm 0 0 0 0) (jx_Pc D dA aK aV K u sz [.ref x0]) (va_Ql (fun (r : Int64) (w : XS) => Post r w) (jx_B D dA K) (AX K sz)) 0 0 (AX K sz) := by
  refine jx_start hfl [.ref x0] [(0, .ref x0)] (by decide) (Nat.le_of_ble_eq_true rfl) rfl (fun X hX hY hin => ?_)
  unfold xw0_bottom at h
  refine jj_aload_n hX dX0_bottom_0 0 rfl 1 rfl ?_
  obtain ⟨k1, h⟩ := h
  refine xg0_9 hX hY k1 dX0_bottom_1 q420 4 rfl ?_
  exact jj_retl (post := (fun (r : Int64) (w : XS) => Post r w)) (u := u) hX dX0_bottom_4 (Nat.le_refl 0) (Nat.le_refl 0) jx_hB h
theorem hd_xw0_bottom : yX0_bottom.cls ≠ "java/lang/invoke/MethodHandle" ∧ yX0_bottom.cls ≠ "java/lang/invoke/VarHandle" ∧ (parseMethodDescriptor yX0_bottom.desc).map (fun d => d.parameters.length) = some 0 := by decide +kernel
theorem kxw0_bottom {X : JC} {A : Nat → Prop} {Q : State → Prop} {nL k n pc : Nat} {lv : List (Nat × Value)} {st : List Value} {own : String} {cc : ByteArray} {ret : Option FieldType} {F LL mc ms ix : Nat} {D : va_G} {dA aK aV : Nat → Nat} {K : XK} {u : XS} {x0 : Nat} {Post : Int64 → XS → Prop} (hX : JX X own cc nL ret F LL mc ms) (hY : JY X D dA aK aV A) (h1a : K x0 = (1, 0)) (hlk : (Cond.methodLink own ix yX0_bottom) ∈ lw_all) (hF : 0 + 1 ≤ F) (hL : 8 + (1 + 11) + 0 ≤ LL) (hk : k ≤ mc) (hk2 : n ≤ ms) (hw : (st.map fun v => v.category).sum ≤ 8) (d : decode cc pc = .ok (.invokevirtual ix, 3)) (q : Nat) (hq : pc + 3 = q) (h : xw0_bottom x0 K u  Post) (kk : ∀ (r : Int64) (u2 : XS), Post r u2 → JJ X A Q nL (XP D dA A K u2) k n q lv (.long r :: st)) : JJ X A Q nL (XP D dA A K u) k n pc lv (.ref x0 :: st) :=
  jx_callVl (na := 0) (As := []) hX hY jf0 h1a (fun sz => mxw0_bottom (jj_l X) hY.2.2.2.2 D dA aK aV x0 K u  Post h sz) hlk q503 q504 q120 q505 ⟨rfl, hd_xw0_bottom⟩ rfl rfl hw hF hL hk hk2 d q hq kk
theorem knxw0_bottom {X : JC} {A : Nat → Prop} {Q : State → Prop} {nL k n pc : Nat} {lv : List (Nat × Value)} {st : List Value} {own : String} {cc : ByteArray} {ret : Option FieldType} {F LL mc ms ix : Nat} {D : va_G} {dA aK aV : Nat → Nat} {K : XK} {u : XS} {x0 : Nat} {host : String} {Post : Int64 → XS → Prop} (hX : JX X own cc nL ret F LL mc ms) (hY : JY X D dA aK aV A) (h1a : K x0 = (1, 0)) (hlk : (Cond.methodLinkNest own ix yX0_bottom host) ∈ jx_nest) (hF : 0 + 1 ≤ F) (hL : 8 + (1 + 11) + 0 ≤ LL) (hk : k ≤ mc) (hk2 : n ≤ ms) (hw : (st.map fun v => v.category).sum ≤ 8) (d : decode cc pc = .ok (.invokevirtual ix, 3)) (q : Nat) (hq : pc + 3 = q) (h : xw0_bottom x0 K u  Post) (kk : ∀ (r : Int64) (u2 : XS), Post r u2 → JJ X A Q nL (XP D dA A K u2) k n q lv (.long r :: st)) : JJ X A Q nL (XP D dA A K u) k n pc lv (.ref x0 :: st) :=
  jx_callNl (na := 0) (As := []) hX hY jf0 h1a (fun sz => mxw0_bottom (jj_l X) hY.2.2.2.2 D dA aK aV x0 K u  Post h sz) hlk q503 q504 q120 q505 hd_xw0_bottom rfl rfl hw hF hL hk hk2 d q hq kk
/-- RaisedPress$Refused.by(I)LRaisedPress$Refused; -/
def xw3_by (x0 : Nat) (x1 : Int32) (K : XK) (u : XS) (Post : Nat → XS → Prop) : Prop :=
  K x0 = (1, 3) ∧
  ∀ u2 : XS, u2 = xsi u x0 6 x1 →
  Post x0 u2
set_option maxHeartbeats 4000000 in
set_option maxRecDepth 100000 in
theorem mxw3_by (l : Launch) (hfl : l.stackTraces = false) (D : va_G) (dA aK aV : Nat → Nat) (x0 : Nat) (x1 : Int32) (K : XK) (u : XS) (Post : Nat → XS → Prop) (h : xw3_by x0 x1 K u Post) (sz : Nat) : Met l yX3_by (ws_ yX3_by cX3_by 2 (Option.some (Jvm.ClassFile.FieldType.object "RaisedPress$Refused"))) (jx_rm 0 0 0 0) (jx_Pc D dA aK aV K u sz [.ref x0, .int x1]) (jx_Qr (fun (r : Nat) (w : XS) => Post r w) (jx_B D dA K) (AX K sz)) 0 0 (AX K sz) := by
  refine jx_start hfl [.ref x0, .int x1] [(0, .ref x0), (1, .int x1)] (by decide) (Nat.le_of_ble_eq_true rfl) rfl (fun X hX hY hin => ?_)
  unfold xw3_by at h
  refine jj_aload_n hX dX3_by_0 0 rfl 1 rfl ?_
  refine jj_iload_n hX dX3_by_1 1 rfl 2 rfl ?_
  obtain ⟨k2, h⟩ := h
  refine xp3_6 hX hY k2 dX3_by_2 q252 5 rfl (fun u2 e2 => ?_)
  have h := h u2 e2
  refine jj_aload_n hX dX3_by_5 0 rfl 6 rfl ?_
  exact jj_retr (post := (fun (r : Nat) (w : XS) => Post r w)) (u := u2) hX (by first | exact Or.inl ⟨_, rfl⟩ | exact Or.inr ⟨_, rfl⟩) dX3_by_6 (Nat.le_refl 0) (Nat.le_refl 0) jx_hB h
theorem hd_xw3_by : yX3_by.cls ≠ "java/lang/invoke/MethodHandle" ∧ yX3_by.cls ≠ "java/lang/invoke/VarHandle" ∧ (parseMethodDescriptor yX3_by.desc).map (fun d => d.parameters.length) = some 1 := by decide +kernel
theorem kxw3_by {X : JC} {A : Nat → Prop} {Q : State → Prop} {nL k n pc : Nat} {lv : List (Nat × Value)} {st : List Value} {own : String} {cc : ByteArray} {ret : Option FieldType} {F LL mc ms ix : Nat} {D : va_G} {dA aK aV : Nat → Nat} {K : XK} {u : XS} {x0 : Nat} {x1 : Int32} {Post : Nat → XS → Prop} (hX : JX X own cc nL ret F LL mc ms) (hY : JY X D dA aK aV A) (h1a : K x0 = (1, 3)) (hlk : (Cond.methodLink own ix yX3_by) ∈ lw_all) (hF : 0 + 1 ≤ F) (hL : 8 + (2 + 11) + 0 ≤ LL) (hk : k ≤ mc) (hk2 : n ≤ ms) (hw : (st.map fun v => v.category).sum ≤ 8) (d : decode cc pc = .ok (.invokevirtual ix, 3)) (q : Nat) (hq : pc + 3 = q) (h : xw3_by x0 x1 K u  Post) (kk : ∀ (r : Nat) (u2 : XS), Post r u2 → JJ X A Q nL (XP D dA A K u2) k n q lv (.ref r :: st)) : JJ X A Q nL (XP D dA A K u) k n pc lv (.int x1 :: .ref x0 :: st) :=
  jx_callVr (na := 1) (As := [.int x1]) hX hY jf3 h1a (fun sz => mxw3_by (jj_l X) hY.2.2.2.2 D dA aK aV x0 x1 K u  Post h sz) hlk q544 q545 q125 q546 ⟨rfl, hd_xw3_by⟩ rfl rfl hw hF hL hk hk2 d q hq kk
theorem knxw3_by {X : JC} {A : Nat → Prop} {Q : State → Prop} {nL k n pc : Nat} {lv : List (Nat × Value)} {st : List Value} {own : String} {cc : ByteArray} {ret : Option FieldType} {F LL mc ms ix : Nat} {D : va_G} {dA aK aV : Nat → Nat} {K : XK} {u : XS} {x0 : Nat} {x1 : Int32} {host : String} {Post : Nat → XS → Prop} (hX : JX X own cc nL ret F LL mc ms) (hY : JY X D dA aK aV A) (h1a : K x0 = (1, 3)) (hlk : (Cond.methodLinkNest own ix yX3_by host) ∈ jx_nest) (hF : 0 + 1 ≤ F) (hL : 8 + (2 + 11) + 0 ≤ LL) (hk : k ≤ mc) (hk2 : n ≤ ms) (hw : (st.map fun v => v.category).sum ≤ 8) (d : decode cc pc = .ok (.invokevirtual ix, 3)) (q : Nat) (hq : pc + 3 = q) (h : xw3_by x0 x1 K u  Post) (kk : ∀ (r : Nat) (u2 : XS), Post r u2 → JJ X A Q nL (XP D dA A K u2) k n q lv (.ref r :: st)) : JJ X A Q nL (XP D dA A K u) k n pc lv (.int x1 :: .ref x0 :: st) :=
  jx_callNr (na := 1) (As := [.int x1]) hX hY jf3 h1a (fun sz => mxw3_by (jj_l X) hY.2.2.2.2 D dA aK aV x0 x1 K u  Post h sz) hlk q544 q545 q125 q546 hd_xw3_by rfl rfl hw hF hL hk hk2 d q hq kk
/-- RaisedPress.want(ZI)V -/
def xw0_want (x0 : Nat) (x1 : Int32) (x2 : Int32) (K : XK) (u : XS) (mc ms : Nat) (Post : XK → XS → Prop) (PX : Nat → XK → XS → Prop) : Prop :=
  (¬ x1 = 0 →
    Post K u) ∧
  (x1 = 0 →
    K x0 = (1, 0) ∧
    ∃ b9, (xr u x0 6) = some b9 ∧
    K b9 = (1, 3) ∧
    xw3_by b9 x2 K u (fun r9 u9 =>
      K r9 = (1, 3) ∧
      PX r9 K u9))
set_option maxHeartbeats 4000000 in
set_option maxRecDepth 100000 in
theorem mxw0_want (l : Launch) (hfl : l.stackTraces = false) (D : va_G) (dA aK aV : Nat → Nat) (x0 : Nat) (x1 : Int32) (x2 : Int32) (K : XK) (u : XS) (mc ms : Nat) (Post : XK → XS → Prop) (PX : Nat → XK → XS → Prop) (h : xw0_want x0 x1 x2 K u mc ms Post PX) (sz : Nat) : vx_Met l yX0_want (ws_ yX0_want cX0_want 3 (Option.none : Option Jvm.ClassFile.FieldType)) (jx_rm 1 21 mc ms) (jx_Pc D dA aK aV K u sz [.ref x0, .int x1, .int x2]) (va_Qv (fun w : XK × XS => Post w.1 w.2) (jx_BA D dA K sz) (AX K sz)) (jx_XC 3 PX D dA K sz (AX K sz)) mc ms (AX K sz) := by
  refine jx_startT hfl [.ref x0, .int x1, .int x2] [(0, .ref x0), (1, .int x1), (2, .int x2)] (by decide) (Nat.le_of_ble_eq_true rfl) rfl (fun X hX hY hE => ?_)
  unfold xw0_want at h
  refine jj_iload_n hX dX0_want_0 1 rfl 1 rfl ?_
  refine jj_if_ne hX dX0_want_1 13 4 (by decide) rfl (fun c1 => ?_) (fun c1 => ?_)
  · have h := h.1 c1
    exact jt_ret (jj_retv (post := (fun w : XK × XS => Post w.1 w.2)) (u := (K, u)) hX dX0_want_13 (Nat.zero_le _) (Nat.zero_le _) (jx_hBA XLe.rf) h)
  · have h := h.2 c1
    refine jj_aload_n hX dX0_want_4 0 rfl 5 rfl ?_
    obtain ⟨k5, h⟩ := h
    refine xg0_6 hX hY k5 dX0_want_5 q417 8 rfl ?_
    refine jj_iload_n hX dX0_want_8 2 rfl 9 rfl ?_
    obtain ⟨b9, g9, h⟩ := h
    refine jj_st (st2 := [.int x2, .ref b9]) (by rw [va_rf_some g9]) ?_
    obtain ⟨k9, h⟩ := h
    refine kxw3_by hX hY k9 q543 (Nat.le_of_ble_eq_true rfl) (Nat.le_of_ble_eq_true rfl) (Nat.zero_le _) (Nat.zero_le _) (Nat.le_of_ble_eq_true rfl) dX0_want_9 12 rfl h (fun r9 u9 h => ?_)
    obtain ⟨k12, h⟩ := h
    refine jj_athrow hX hY jf3 k12 dX0_want_12 ?_
    exact jt_out (e := 3) hX hE (Nat.zero_le _) (Nat.zero_le _) XLe.rf h
theorem hd_xw0_want : yX0_want.cls ≠ "java/lang/invoke/MethodHandle" ∧ yX0_want.cls ≠ "java/lang/invoke/VarHandle" ∧ (parseMethodDescriptor yX0_want.desc).map (fun d => d.parameters.length) = some 2 := by decide +kernel
theorem kxw0_want {X : JC} {A : Nat → Prop} {Q : State → Prop} {nL k n pc : Nat} {lv : List (Nat × Value)} {st : List Value} {own : String} {cc : ByteArray} {ret : Option FieldType} {F LL mc ms ix mc2 ms2 : Nat} {D : va_G} {dA aK aV : Nat → Nat} {K : XK} {u : XS} {x0 : Nat} {x1 : Int32} {x2 : Int32} {Post : XK → XS → Prop} {PX : Nat → XK → XS → Prop} (hX : JX X own cc nL ret F LL mc ms) (hY : JY X D dA aK aV A) (h1a : K x0 = (1, 0)) (hlk : (Cond.methodLink own ix yX0_want) ∈ lw_all) (hF : 1 + 1 ≤ F) (hL : 8 + (3 + 11) + 21 ≤ LL) (hk : k + mc2 ≤ mc) (hk2 : n + ms2 ≤ ms) (hw : (st.map fun v => v.category).sum ≤ 8) (d : decode cc pc = .ok (.invokevirtual ix, 3)) (q : Nat) (hq : pc + 3 = q) (h : xw0_want x0 x1 x2 K u mc2 ms2 Post PX) (kx : ∀ (q9 : Nat) (K2 : XK) (u2 : XS), XLe K K2 → PX q9 K2 u2 → JT X A Q nL (XP D dA A K2 u2) (k + mc2) (n + ms2) pc lv (jx_en 3) q9) (kk : ∀ (K2 : XK) (u2 : XS), XLe K K2 → Post K2 u2 → JJ X A Q nL (XP D dA A K2 u2) (k + mc2) (n + ms2) q lv (st)) : JJ X A Q nL (XP D dA A K u) k n pc lv (.int x2 :: .int x1 :: .ref x0 :: st) :=
  jx_callTVv (na := 2) (As := [.int x1, .int x2]) hX hY jf0 h1a (fun sz => mxw0_want (jj_l X) hY.2.2.2.2 D dA aK aV x0 x1 x2 K u mc2 ms2 Post PX h sz) hlk q541 qs1 q120 q542 ⟨rfl, hd_xw0_want⟩ rfl rfl hw hF hL hk hk2 d q hq kx kk
/-- RaisedPress.row(II)Ljava/lang/Object; -/
def xw0_row (x0 : Int32) (x1 : Int32) (K : XK) (u : XS) (mc ms : Nat) (Post : Nat → XK → XS → Prop) (PX : Nat → XK → XS → Prop) : Prop :=
  (¬ x0 = 0 →
    (¬ x0 = (1 : Int32) →
      (¬ x0 = (2 : Int32) →
        (¬ x1 < 0 →
          ¬ x1 < 0 ∧ x1.toNatClampNeg * 8 ≤ 536870912 ∧ 1 ≤ mc ∧ (0 + x1.toNatClampNeg) ≤ ms ∧ ∀ (b33 : Nat) (K33 : XK) (u33 : XS), (K b33).1 = 0 → K33 = xup K b33 (5, x1.toNatClampNeg) → u33 = xz u b33 →
          Post b33 K33 u33) ∧
        (x1 < 0 → 3 ≤ mc ∧ 54 ≤ ms ∧ ∀ q33 : Nat,
          PX q33 K u)) ∧
      (x0 = (2 : Int32) →
        (¬ x1 < 0 →
          ¬ x1 < 0 ∧ x1.toNatClampNeg * 8 ≤ 536870912 ∧ 1 ≤ mc ∧ (0 + x1.toNatClampNeg) ≤ ms ∧ ∀ (b27 : Nat) (K27 : XK) (u27 : XS), (K b27).1 = 0 → K27 = xup K b27 (2, x1.toNatClampNeg) → u27 = xz u b27 →
          Post b27 K27 u27) ∧
        (x1 < 0 → 3 ≤ mc ∧ 54 ≤ ms ∧ ∀ q27 : Nat,
          PX q27 K u))) ∧
    (x0 = (1 : Int32) →
      (¬ x1 < 0 →
        ¬ x1 < 0 ∧ x1.toNatClampNeg * 8 ≤ 536870912 ∧ 1 ≤ mc ∧ (0 + x1.toNatClampNeg) ≤ ms ∧ ∀ (b16 : Nat) (K16 : XK) (u16 : XS), (K b16).1 = 0 → K16 = xup K b16 (4, x1.toNatClampNeg) → u16 = xz u b16 →
        Post b16 K16 u16) ∧
      (x1 < 0 → 3 ≤ mc ∧ 54 ≤ ms ∧ ∀ q16 : Nat,
        PX q16 K u))) ∧
  (x0 = 0 →
    (¬ x1 < 0 →
      ¬ x1 < 0 ∧ x1.toNatClampNeg * 8 ≤ 536870912 ∧ 1 ≤ mc ∧ (0 + x1.toNatClampNeg) ≤ ms ∧ ∀ (b5 : Nat) (K5 : XK) (u5 : XS), (K b5).1 = 0 → K5 = xup K b5 (3, x1.toNatClampNeg) → u5 = xz u b5 →
      Post b5 K5 u5) ∧
    (x1 < 0 → 3 ≤ mc ∧ 54 ≤ ms ∧ ∀ q5 : Nat,
      PX q5 K u))
set_option maxHeartbeats 4000000 in
set_option maxRecDepth 100000 in
theorem mxw0_row (l : Launch) (hfl : l.stackTraces = false) (D : va_G) (dA aK aV : Nat → Nat) (x0 : Int32) (x1 : Int32) (K : XK) (u : XS) (mc ms : Nat) (Post : Nat → XK → XS → Prop) (PX : Nat → XK → XS → Prop) (h : xw0_row x0 x1 K u mc ms Post PX) (sz : Nat) : vx_Met l yX0_row (ws_ yX0_row cX0_row 2 (Option.some (Jvm.ClassFile.FieldType.object "java/lang/Object"))) (jx_rm 7 10248 mc ms) (jx_Pc D dA aK aV K u sz [.int x0, .int x1]) (jx_Qr (fun (r : Nat) (w : XK × XS) => Post r w.1 w.2) (jx_BA D dA K sz) (AX K sz)) (jx_XC 101 PX D dA K sz (AX K sz)) mc ms (AX K sz) := by
  refine jx_startT hfl [.int x0, .int x1] [(0, .int x0), (1, .int x1)] (by decide) (Nat.le_of_ble_eq_true rfl) rfl (fun X hX hY hE => ?_)
  unfold xw0_row at h
  refine jj_iload_n hX dX0_row_0 0 rfl 1 rfl ?_
  refine jj_if_ne hX dX0_row_1 10 4 (by decide) rfl (fun c1 => ?_) (fun c1 => ?_)
  · have h := h.1 c1
    refine jj_iload_n hX dX0_row_10 0 rfl 11 rfl ?_
    refine jj_iconst hX dX0_row_11 ci_1 12 rfl ?_
    refine jj_icmp_ne hX dX0_row_12 21 15 (by decide) rfl (fun c12 => ?_) (fun c12 => ?_)
    · have h := h.1 c12
      refine jj_iload_n hX dX0_row_21 0 rfl 22 rfl ?_
      refine jj_iconst hX dX0_row_22 ci_2 23 rfl ?_
      refine jj_icmp_ne hX dX0_row_23 32 26 (by decide) rfl (fun c23 => ?_) (fun c23 => ?_)
      · have h := h.1 c23
        refine jj_iload_n hX dX0_row_32 1 rfl 33 rfl ?_
        by_cases hn33 : x1 < 0
        · obtain ⟨hc33, hs33, h⟩ := h.2 hn33
          refine jv_newneg hX hY hn33 (Nat.le_of_ble_eq_true rfl) (Nat.le_of_ble_eq_true rfl) (by simp [jx_rfc, jx_c1, jx_c2, jx_c3, jx_c4]) (by simpa using hc33) (by simpa using hs33) dX0_row_33 (fun q33 => jt_cs (k2 := 3) (n2 := 54) (by simp) (by simp) ?_)
          have h := h q33
          exact jt_out (e := 101) hX hE hc33 hs33 XLe.rf h
        · have h := h.1 hn33
          obtain ⟨hn33_1, hm33, h⟩ := h
          obtain ⟨hc33_1, hs33_1, h⟩ := h
          refine jx_na3 hX hY hn33_1 _ rfl hm33 hc33_1 hs33_1 dX0_row_33 35 rfl (fun b33 K33 u33 hb33 eK33 e33 => ?_)
          have h := h b33 K33 u33 hb33 eK33 e33
          have hleb33 : XLe K K33 := by rw [eK33]; exact XLe.up hb33
          have hl33 := XLe.rf.tr hleb33
          have k33 : K33 b33 = (5, x1.toNatClampNeg) := by rw [eK33]; exact xup_at
          refine jj_cs (k2 := 1) (n2 := (0 + x1.toNatClampNeg)) rfl rfl ?_
          exact jt_ret (jj_retr (post := (fun (r : Nat) (w : XK × XS) => Post r w.1 w.2)) (u := (K33, u33)) hX (by first | exact Or.inl ⟨_, rfl⟩ | exact Or.inr ⟨_, rfl⟩) dX0_row_35 hc33_1 hs33_1 (jx_hBA hl33) h)
      · have h := h.2 c23
        refine jj_iload_n hX dX0_row_26 1 rfl 27 rfl ?_
        by_cases hn27 : x1 < 0
        · obtain ⟨hc27, hs27, h⟩ := h.2 hn27
          refine jv_newneg hX hY hn27 (Nat.le_of_ble_eq_true rfl) (Nat.le_of_ble_eq_true rfl) (by simp [jx_rfc, jx_c1, jx_c2, jx_c3, jx_c4]) (by simpa using hc27) (by simpa using hs27) dX0_row_27 (fun q27 => jt_cs (k2 := 3) (n2 := 54) (by simp) (by simp) ?_)
          have h := h q27
          exact jt_out (e := 101) hX hE hc27 hs27 XLe.rf h
        · have h := h.1 hn27
          obtain ⟨hn27_1, hm27, h⟩ := h
          obtain ⟨hc27_1, hs27_1, h⟩ := h
          refine jx_na0 hX hY hn27_1 _ rfl hm27 hc27_1 hs27_1 dX0_row_27 29 rfl (fun b27 K27 u27 hb27 eK27 e27 => ?_)
          have h := h b27 K27 u27 hb27 eK27 e27
          have hleb27 : XLe K K27 := by rw [eK27]; exact XLe.up hb27
          have hl27 := XLe.rf.tr hleb27
          have k27 : K27 b27 = (2, x1.toNatClampNeg) := by rw [eK27]; exact xup_at
          refine jj_cs (k2 := 1) (n2 := (0 + x1.toNatClampNeg)) rfl rfl ?_
          refine jj_goto hX dX0_row_29 35 (by decide) ?_
          exact jt_ret (jj_retr (post := (fun (r : Nat) (w : XK × XS) => Post r w.1 w.2)) (u := (K27, u27)) hX (by first | exact Or.inl ⟨_, rfl⟩ | exact Or.inr ⟨_, rfl⟩) dX0_row_35 hc27_1 hs27_1 (jx_hBA hl27) h)
    · have h := h.2 c12
      refine jj_iload_n hX dX0_row_15 1 rfl 16 rfl ?_
      by_cases hn16 : x1 < 0
      · obtain ⟨hc16, hs16, h⟩ := h.2 hn16
        refine jv_newneg hX hY hn16 (Nat.le_of_ble_eq_true rfl) (Nat.le_of_ble_eq_true rfl) (by simp [jx_rfc, jx_c1, jx_c2, jx_c3, jx_c4]) (by simpa using hc16) (by simpa using hs16) dX0_row_16 (fun q16 => jt_cs (k2 := 3) (n2 := 54) (by simp) (by simp) ?_)
        have h := h q16
        exact jt_out (e := 101) hX hE hc16 hs16 XLe.rf h
      · have h := h.1 hn16
        obtain ⟨hn16_1, hm16, h⟩ := h
        obtain ⟨hc16_1, hs16_1, h⟩ := h
        refine jx_na2 hX hY hn16_1 _ rfl hm16 hc16_1 hs16_1 dX0_row_16 18 rfl (fun b16 K16 u16 hb16 eK16 e16 => ?_)
        have h := h b16 K16 u16 hb16 eK16 e16
        have hleb16 : XLe K K16 := by rw [eK16]; exact XLe.up hb16
        have hl16 := XLe.rf.tr hleb16
        have k16 : K16 b16 = (4, x1.toNatClampNeg) := by rw [eK16]; exact xup_at
        refine jj_cs (k2 := 1) (n2 := (0 + x1.toNatClampNeg)) rfl rfl ?_
        refine jj_goto hX dX0_row_18 35 (by decide) ?_
        exact jt_ret (jj_retr (post := (fun (r : Nat) (w : XK × XS) => Post r w.1 w.2)) (u := (K16, u16)) hX (by first | exact Or.inl ⟨_, rfl⟩ | exact Or.inr ⟨_, rfl⟩) dX0_row_35 hc16_1 hs16_1 (jx_hBA hl16) h)
  · have h := h.2 c1
    refine jj_iload_n hX dX0_row_4 1 rfl 5 rfl ?_
    by_cases hn5 : x1 < 0
    · obtain ⟨hc5, hs5, h⟩ := h.2 hn5
      refine jv_newneg hX hY hn5 (Nat.le_of_ble_eq_true rfl) (Nat.le_of_ble_eq_true rfl) (by simp [jx_rfc, jx_c1, jx_c2, jx_c3, jx_c4]) (by simpa using hc5) (by simpa using hs5) dX0_row_5 (fun q5 => jt_cs (k2 := 3) (n2 := 54) (by simp) (by simp) ?_)
      have h := h q5
      exact jt_out (e := 101) hX hE hc5 hs5 XLe.rf h
    · have h := h.1 hn5
      obtain ⟨hn5_1, hm5, h⟩ := h
      obtain ⟨hc5_1, hs5_1, h⟩ := h
      refine jx_na1 hX hY hn5_1 _ rfl hm5 hc5_1 hs5_1 dX0_row_5 7 rfl (fun b5 K5 u5 hb5 eK5 e5 => ?_)
      have h := h b5 K5 u5 hb5 eK5 e5
      have hleb5 : XLe K K5 := by rw [eK5]; exact XLe.up hb5
      have hl5 := XLe.rf.tr hleb5
      have k5 : K5 b5 = (3, x1.toNatClampNeg) := by rw [eK5]; exact xup_at
      refine jj_cs (k2 := 1) (n2 := (0 + x1.toNatClampNeg)) rfl rfl ?_
      refine jj_goto hX dX0_row_7 35 (by decide) ?_
      exact jt_ret (jj_retr (post := (fun (r : Nat) (w : XK × XS) => Post r w.1 w.2)) (u := (K5, u5)) hX (by first | exact Or.inl ⟨_, rfl⟩ | exact Or.inr ⟨_, rfl⟩) dX0_row_35 hc5_1 hs5_1 (jx_hBA hl5) h)
theorem hd_xw0_row : yX0_row.cls ≠ "java/lang/invoke/MethodHandle" ∧ yX0_row.cls ≠ "java/lang/invoke/VarHandle" ∧ (parseMethodDescriptor yX0_row.desc).map (fun d => d.parameters.length) = some 2 := by decide +kernel
theorem kxw0_row {X : JC} {A : Nat → Prop} {Q : State → Prop} {nL k n pc : Nat} {lv : List (Nat × Value)} {st : List Value} {own : String} {cc : ByteArray} {ret : Option FieldType} {F LL mc ms ix mc2 ms2 : Nat} {D : va_G} {dA aK aV : Nat → Nat} {K : XK} {u : XS} {x0 : Int32} {x1 : Int32} {Post : Nat → XK → XS → Prop} {PX : Nat → XK → XS → Prop} (hX : JX X own cc nL ret F LL mc ms) (hY : JY X D dA aK aV A) (hlk : (Cond.methodLink own ix yX0_row) ∈ lw_all) (hF : 7 + 1 ≤ F) (hL : 8 + (2 + 11) + 10248 ≤ LL) (hk : k + mc2 ≤ mc) (hk2 : n + ms2 ≤ ms) (hw : (st.map fun v => v.category).sum ≤ 8) (d : decode cc pc = .ok (.invokestatic ix, 3)) (q : Nat) (hq : pc + 3 = q) (h : xw0_row x0 x1 K u mc2 ms2 Post PX) (kx : ∀ (q9 : Nat) (K2 : XK) (u2 : XS), XLe K K2 → PX q9 K2 u2 → JT X A Q nL (XP D dA A K2 u2) (k + mc2) (n + ms2) pc lv (jx_en 101) q9) (kk : ∀ (r : Nat) (K2 : XK) (u2 : XS), XLe K K2 → Post r K2 u2 → JJ X A Q nL (XP D dA A K2 u2) (k + mc2) (n + ms2) q lv (.ref r :: st)) : JJ X A Q nL (XP D dA A K u) k n pc lv (.int x1 :: .int x0 :: st) :=
  jx_callTSr (na := 2) (As := [.int x0, .int x1]) hX hY (fun sz => mxw0_row (jj_l X) hY.2.2.2.2 D dA aK aV x0 x1 K u mc2 ms2 Post PX h sz) hlk q548 q120 q549 hd_xw0_row rfl rfl hw hF hL hk hk2 d q hq kx kk
/-- RaisedPress.no(LRaisedPress$Refused;)Z -/
def xw0_no (x0 : Nat) (x1 : Nat) (K : XK) (u : XS) (Post : Int32 → XS → Prop) : Prop :=
  K x1 = (1, 3) ∧
  K x0 = (1, 0) ∧
  ∀ u5 : XS, u5 = xsi u x0 7 (xi u x1 6) →
  Post (0 : Int32) u5
set_option maxHeartbeats 4000000 in
set_option maxRecDepth 100000 in
theorem mxw0_no (l : Launch) (hfl : l.stackTraces = false) (D : va_G) (dA aK aV : Nat → Nat) (x0 : Nat) (x1 : Nat) (K : XK) (u : XS) (Post : Int32 → XS → Prop) (h : xw0_no x0 x1 K u Post) (sz : Nat) : Met l yX0_no (ws_ yX0_no cX0_no 2 (Option.some Jvm.ClassFile.FieldType.boolean)) (jx_rm 0 0 0 0) (jx_Pc D dA aK aV K u sz [.ref x0, .ref x1]) (va_Qi (fun (r : Int32) (w : XS) => Post r w ∧ jj_z r) (jx_B D dA K) (AX K sz)) 0 0 (AX K sz) := by
  refine jx_start hfl [.ref x0, .ref x1] [(0, .ref x0), (1, .ref x1)] (by decide) (Nat.le_of_ble_eq_true rfl) rfl (fun X hX hY hin => ?_)
  unfold xw0_no at h
  refine jj_aload_n hX dX0_no_0 0 rfl 1 rfl ?_
  refine jj_aload_n hX dX0_no_1 1 rfl 2 rfl ?_
  obtain ⟨k2, h⟩ := h
  refine xgn3_6 hX hY k2 dX0_no_2 nq253 5 rfl ?_
  obtain ⟨k5, h⟩ := h
  refine xp0_7 hX hY k5 dX0_no_5 q418 8 rfl (fun u5 e5 => ?_)
  have h := h u5 e5
  refine jj_iconst hX dX0_no_8 ci_0 9 rfl ?_
  exact jj_retz (post := (fun (r : Int32) (w : XS) => Post r w)) (u := u5) hX dX0_no_9 (Nat.le_refl 0) (Nat.le_refl 0) jx_hB jj_z0 h
theorem hd_xw0_no : yX0_no.cls ≠ "java/lang/invoke/MethodHandle" ∧ yX0_no.cls ≠ "java/lang/invoke/VarHandle" ∧ (parseMethodDescriptor yX0_no.desc).map (fun d => d.parameters.length) = some 1 := by decide +kernel
theorem kxw0_no {X : JC} {A : Nat → Prop} {Q : State → Prop} {nL k n pc : Nat} {lv : List (Nat × Value)} {st : List Value} {own : String} {cc : ByteArray} {ret : Option FieldType} {F LL mc ms ix : Nat} {D : va_G} {dA aK aV : Nat → Nat} {K : XK} {u : XS} {x0 : Nat} {x1 : Nat} {Post : Int32 → XS → Prop} (hX : JX X own cc nL ret F LL mc ms) (hY : JY X D dA aK aV A) (h1a : K x0 = (1, 0)) (hlk : (Cond.methodLink own ix yX0_no) ∈ lw_all) (hF : 0 + 1 ≤ F) (hL : 8 + (2 + 11) + 0 ≤ LL) (hk : k ≤ mc) (hk2 : n ≤ ms) (hw : (st.map fun v => v.category).sum ≤ 8) (d : decode cc pc = .ok (.invokevirtual ix, 3)) (q : Nat) (hq : pc + 3 = q) (h : xw0_no x0 x1 K u  Post) (kk : ∀ (r : Int32) (u2 : XS), jj_z r → Post r u2 → JJ X A Q nL (XP D dA A K u2) k n q lv (.int r :: st)) : JJ X A Q nL (XP D dA A K u) k n pc lv (.ref x1 :: .ref x0 :: st) :=
  jx_callVz (na := 1) (As := [.ref x1]) hX hY jf0 h1a (fun sz => mxw0_no (jj_l X) hY.2.2.2.2 D dA aK aV x0 x1 K u  Post h sz) hlk q552 qs2 q120 q553 ⟨rfl, hd_xw0_no⟩ rfl rfl hw hF hL hk hk2 d q hq kk
theorem knxw0_no {X : JC} {A : Nat → Prop} {Q : State → Prop} {nL k n pc : Nat} {lv : List (Nat × Value)} {st : List Value} {own : String} {cc : ByteArray} {ret : Option FieldType} {F LL mc ms ix : Nat} {D : va_G} {dA aK aV : Nat → Nat} {K : XK} {u : XS} {x0 : Nat} {x1 : Nat} {host : String} {Post : Int32 → XS → Prop} (hX : JX X own cc nL ret F LL mc ms) (hY : JY X D dA aK aV A) (h1a : K x0 = (1, 0)) (hlk : (Cond.methodLinkNest own ix yX0_no host) ∈ jx_nest) (hF : 0 + 1 ≤ F) (hL : 8 + (2 + 11) + 0 ≤ LL) (hk : k ≤ mc) (hk2 : n ≤ ms) (hw : (st.map fun v => v.category).sum ≤ 8) (d : decode cc pc = .ok (.invokevirtual ix, 3)) (q : Nat) (hq : pc + 3 = q) (h : xw0_no x0 x1 K u  Post) (kk : ∀ (r : Int32) (u2 : XS), jj_z r → Post r u2 → JJ X A Q nL (XP D dA A K u2) k n q lv (.int r :: st)) : JJ X A Q nL (XP D dA A K u) k n pc lv (.ref x1 :: .ref x0 :: st) :=
  jx_callNz (na := 1) (As := [.ref x1]) hX hY jf0 h1a (fun sz => mxw0_no (jj_l X) hY.2.2.2.2 D dA aK aV x0 x1 K u  Post h sz) hlk q552 qs2 q120 q553 hd_xw0_no rfl rfl hw hF hL hk hk2 d q hq kk
def xw0_tray_B35 (Post : Int32 → XK → XS → Prop) (mc ms : Nat) (x0 : Nat) (x1 : Int32) (x2 : Int32) (x3 : Int32) (s0 : Int32) (s1 : Nat) (K : XK) (u : XS) (c s : Nat) : Prop :=
  K s1 = (1, 0) ∧
  ∃ m36 w36, (c + m36) ≤ mc ∧ (s + w36) ≤ ms ∧ xw0_want s1 s0 (1 : Int32) K u m36 w36 (fun K36 u36 =>
    K36 x0 = (1, 0) ∧
    ∃ b44, (xr u36 x0 0) = some b44 ∧
    ∃ n44, K36 b44 = (9, n44) ∧
    vp_in x1 n44 ∧
    ∃ m47 w47, ((c + m36) + m47) ≤ mc ∧ ((s + w36) + w47) ≤ ms ∧ xw0_row x2 x3 K36 u36 m47 w47 (fun r47 K47 u47 =>
      ∃ b50, (xr u36 b44 x1.toNatClampNeg) = some b50 ∧
      K47 b50 = (1, 1) ∧
      ∀ u50 : XS, u50 = xsr u47 b50 0 (some r47) →
      Post (1 : Int32) K47 u50) (fun q47 K47 u47 =>
      ∀ u59 : XS, u59 = xsi u47 x0 7 (1 : Int32) →
      Post (0 : Int32) K47 u59)) (fun q36 K36 u36 =>
    K36 x0 = (1, 0) ∧
    xw0_no x0 q36 K36 u36 (fun r69 u69 =>
      Post r69 K36 u69))
/-- RaisedPress.tray(III)Z -/
def xw0_tray (x0 : Nat) (x1 : Int32) (x2 : Int32) (x3 : Int32) (K : XK) (u : XS) (mc ms : Nat) (Post : Int32 → XK → XS → Prop) : Prop :=
  K x0 = (1, 0) ∧
  ∀ u2 : XS, u2 = xsi u x0 7 (0 : Int32) →
  (x1 < 0 →
    xw0_tray_B35 Post mc ms x0 x1 x2 x3 (0 : Int32) x0 K u2 0 0) ∧
  (¬ x1 < 0 →
    ((4 : Int32) ≤ x1 →
      xw0_tray_B35 Post mc ms x0 x1 x2 x3 (0 : Int32) x0 K u2 0 0) ∧
    (¬ (4 : Int32) ≤ x1 →
      (x2 < 0 →
        xw0_tray_B35 Post mc ms x0 x1 x2 x3 (0 : Int32) x0 K u2 0 0) ∧
      (¬ x2 < 0 →
        ((3 : Int32) < x2 →
          xw0_tray_B35 Post mc ms x0 x1 x2 x3 (0 : Int32) x0 K u2 0 0) ∧
        (¬ (3 : Int32) < x2 →
          ((60 : Int32) < x3 →
            xw0_tray_B35 Post mc ms x0 x1 x2 x3 (0 : Int32) x0 K u2 0 0) ∧
          (¬ (60 : Int32) < x3 →
            xw0_tray_B35 Post mc ms x0 x1 x2 x3 (1 : Int32) x0 K u2 0 0)))))
set_option maxHeartbeats 4000000 in
set_option maxRecDepth 100000 in
theorem txw0_tray_B35 {X : JC} {D : va_G} {dA aK aV : Nat → Nat} {sz : Nat} {K0 : XK} {mc ms : Nat} {Post : Int32 → XK → XS → Prop} {x0 : Nat} {x1 : Int32} {x2 : Int32} {x3 : Int32} {s0 : Int32} {s1 : Nat} {K : XK} {u : XS} {c s : Nat} (hX : JX X yX0_tray.cls cX0_tray 5 (Option.some Jvm.ClassFile.FieldType.boolean) 8 10269 mc ms) (hY : JY X D dA aK aV (AX K0 sz)) (hE : JE X [(5, 54, 55, 149), (5, 54, 64, 48)]) (hl : XLe K0 K) (hc : c ≤ mc) (hs : s ≤ ms) (h : xw0_tray_B35 Post mc ms x0 x1 x2 x3 s0 s1 K u c s) : JJ X (AX K0 sz) (jj_Q X (va_Qi (fun (r : Int32) (w : XK × XS) => Post r w.1 w.2 ∧ jj_z r) (jx_BA D dA K0 sz) (AX K0 sz)) mc ms (AX K0 sz)) 5 (XP D dA (AX K0 sz) K u) c s 35 [(0, .ref x0), (1, .int x1), (2, .int x2), (3, .int x3)] [.int s0, .ref s1] := by
  unfold xw0_tray_B35 at h
  refine jj_iconst hX dX0_tray_35 ci_1 36 rfl ?_
  obtain ⟨k36, h⟩ := h
  obtain ⟨m36, w36, hc36, hs36, h⟩ := h
  refine kxw0_want hX hY k36 q539 (Nat.le_of_ble_eq_true rfl) (Nat.le_of_ble_eq_true rfl) hc36 hs36 (Nat.le_of_ble_eq_true rfl) dX0_tray_36 39 rfl h (fun q36 K36 u36 hle36 h => jt_cs (k2 := (c + m36)) (n2 := (s + w36)) (by simp) (by simp) ?_) (fun K36 u36 hle36 h => jj_cs (k2 := (c + m36)) (n2 := (s + w36)) (by simp) (by simp) ?_)
  · have k36_1 := hle36.at k36 (by simp)
    have hl36 := hl.tr hle36
    refine jt_catch2 (nm := "RaisedPress$Refused") (nm1 := "java/lang/NegativeArraySizeException") hX hY.2.1 hE (by decide) q510 (by decide) rfl (by decide) q239 nq241 ?_
    refine jj_astore (lv2 := [(0, .ref x0), (4, .ref q36)]) hX dX0_tray_64 (Nat.le_of_ble_eq_true rfl) [1, 0] rfl 66 rfl ?_
    refine jj_aload_n hX dX0_tray_66 0 rfl 67 rfl ?_
    refine jj_aload hX dX0_tray_67 1 rfl 69 rfl ?_
    obtain ⟨k69, h⟩ := h
    refine kxw0_no hX hY k69 q550 (Nat.le_of_ble_eq_true rfl) (Nat.le_of_ble_eq_true rfl) hc36 hs36 (Nat.le_of_ble_eq_true rfl) dX0_tray_69 72 rfl h (fun r69 u69 hb69 h => ?_)
    exact jj_retz (post := (fun (r : Int32) (w : XK × XS) => Post r w.1 w.2)) (u := (K36, u69)) hX dX0_tray_72 hc36 hs36 (jx_hBA hl36) hb69 h
  · have k36_1 := hle36.at k36 (by simp)
    have hl36 := hl.tr hle36
    refine jj_aload_n hX dX0_tray_39 0 rfl 40 rfl ?_
    obtain ⟨k40, h⟩ := h
    refine xg0_0 hX hY k40 dX0_tray_40 q408 43 rfl ?_
    refine jj_iload_n hX dX0_tray_43 1 rfl 44 rfl ?_
    obtain ⟨b44, g44, h⟩ := h
    refine jj_st (st2 := [.int x1, .ref b44]) (by rw [va_rf_some g44]) ?_
    obtain ⟨n44, k44, h⟩ := h
    obtain ⟨hi44, h⟩ := h
    refine jx_aald7 hX hY.1 k44 _ rfl hi44 dX0_tray_44 45 rfl ?_
    refine jj_iload_n hX dX0_tray_45 2 rfl 46 rfl ?_
    refine jj_iload_n hX dX0_tray_46 3 rfl 47 rfl ?_
    obtain ⟨m47, w47, hc47, hs47, h⟩ := h
    refine kxw0_row hX hY q547 (Nat.le_of_ble_eq_true rfl) (Nat.le_of_ble_eq_true rfl) hc47 hs47 (by simp [jx_rfc, jx_c1, jx_c2, jx_c3, jx_c4]) dX0_tray_47 50 rfl h (fun q47 K47 u47 hle47 h => jt_cs (k2 := ((c + m36) + m47)) (n2 := ((s + w36) + w47)) (by simp) (by simp) ?_) (fun r47 K47 u47 hle47 h => jj_cs (k2 := ((c + m36) + m47)) (n2 := ((s + w36) + w47)) (by simp) (by simp) ?_)
    · have k47 := hle47.at k36_1 (by simp)
      have k47_1 := hle47.at k40 (by simp)
      have k47_2 := hle47.at k44 (by simp)
      have hl47 := hl36.tr hle47
      refine jt_catch0 (nm := "java/lang/NegativeArraySizeException") hX hY.2.1 hE rfl (by decide) q510 nq530 ?_
      refine jj_astore (lv2 := [(0, .ref x0), (4, .ref q47)]) hX dX0_tray_55 (Nat.le_of_ble_eq_true rfl) [1, 0] rfl 57 rfl ?_
      refine jj_aload_n hX dX0_tray_57 0 rfl 58 rfl ?_
      refine jj_iconst hX dX0_tray_58 ci_1 59 rfl ?_
      refine xp0_7 hX hY k47_1 dX0_tray_59 q418 62 rfl (fun u59 e59 => ?_)
      have h := h u59 e59
      refine jj_iconst hX dX0_tray_62 ci_0 63 rfl ?_
      exact jj_retz (post := (fun (r : Int32) (w : XK × XS) => Post r w.1 w.2)) (u := (K47, u59)) hX dX0_tray_63 hc47 hs47 (jx_hBA hl47) jj_z0 h
    · have k47 := hle47.at k36_1 (by simp)
      have k47_1 := hle47.at k40 (by simp)
      have k47_2 := hle47.at k44 (by simp)
      have hl47 := hl36.tr hle47
      obtain ⟨b50, g50, h⟩ := h
      refine jj_st (st2 := [.ref r47, .ref b50]) (by rw [va_rf_some g50]) ?_
      obtain ⟨k50, h⟩ := h
      refine xpn1_0 (v := (some r47)) hX hY k50 dX0_tray_50 nq165 53 rfl (fun u50 e50 => ?_)
      have h := h u50 e50
      refine jj_iconst hX dX0_tray_53 ci_1 54 rfl ?_
      exact jj_retz (post := (fun (r : Int32) (w : XK × XS) => Post r w.1 w.2)) (u := (K47, u50)) hX dX0_tray_54 hc47 hs47 (jx_hBA hl47) jj_z1 h
set_option maxHeartbeats 4000000 in
set_option maxRecDepth 100000 in
theorem mxw0_tray (l : Launch) (hfl : l.stackTraces = false) (D : va_G) (dA aK aV : Nat → Nat) (x0 : Nat) (x1 : Int32) (x2 : Int32) (x3 : Int32) (K : XK) (u : XS) (mc ms : Nat) (Post : Int32 → XK → XS → Prop) (h : xw0_tray x0 x1 x2 x3 K u mc ms Post) (sz : Nat) : Met l yX0_tray (wsW_ yX0_tray cX0_tray 5 (Option.some Jvm.ClassFile.FieldType.boolean) [(5, 54, 55, 149), (5, 54, 64, 48)]) (jx_rm 8 10269 mc ms) (jx_Pc D dA aK aV K u sz [.ref x0, .int x1, .int x2, .int x3]) (va_Qi (fun (r : Int32) (w : XK × XS) => Post r w.1 w.2 ∧ jj_z r) (jx_BA D dA K sz) (AX K sz)) mc ms (AX K sz) := by
  refine jx_startW hfl [.ref x0, .int x1, .int x2, .int x3] [(0, .ref x0), (1, .int x1), (2, .int x2), (3, .int x3)] (by decide) (Nat.le_of_ble_eq_true rfl) rfl (fun X hX hY hE => ?_)
  unfold xw0_tray at h
  refine jj_aload_n hX dX0_tray_0 0 rfl 1 rfl ?_
  refine jj_iconst hX dX0_tray_1 ci_0 2 rfl ?_
  obtain ⟨k2, h⟩ := h
  refine xp0_7 hX hY k2 dX0_tray_2 q418 5 rfl (fun u2 e2 => ?_)
  have h := h u2 e2
  refine jj_aload_n hX dX0_tray_5 0 rfl 6 rfl ?_
  refine jj_iload_n hX dX0_tray_6 1 rfl 7 rfl ?_
  refine jj_if_lt hX dX0_tray_7 34 10 (by decide) rfl (fun c7 => ?_) (fun c7 => ?_)
  · have h := h.1 c7
    refine jj_iconst hX dX0_tray_34 ci_0 35 rfl ?_
    exact txw0_tray_B35 hX hY hE XLe.rf (Nat.zero_le _) (Nat.zero_le _) h
  · have h := h.2 c7
    refine jj_iload_n hX dX0_tray_10 1 rfl 11 rfl ?_
    refine jj_iconst hX dX0_tray_11 ci_4 12 rfl ?_
    refine jj_icmp_ge hX dX0_tray_12 34 15 (by decide) rfl (fun c12 => ?_) (fun c12 => ?_)
    · have h := h.1 c12
      refine jj_iconst hX dX0_tray_34 ci_0 35 rfl ?_
      exact txw0_tray_B35 hX hY hE XLe.rf (Nat.zero_le _) (Nat.zero_le _) h
    · have h := h.2 c12
      refine jj_iload_n hX dX0_tray_15 2 rfl 16 rfl ?_
      refine jj_if_lt hX dX0_tray_16 34 19 (by decide) rfl (fun c16 => ?_) (fun c16 => ?_)
      · have h := h.1 c16
        refine jj_iconst hX dX0_tray_34 ci_0 35 rfl ?_
        exact txw0_tray_B35 hX hY hE XLe.rf (Nat.zero_le _) (Nat.zero_le _) h
      · have h := h.2 c16
        refine jj_iload_n hX dX0_tray_19 2 rfl 20 rfl ?_
        refine jj_iconst hX dX0_tray_20 ci_3 21 rfl ?_
        refine jj_icmp_gt hX dX0_tray_21 34 24 (by decide) rfl (fun c21 => ?_) (fun c21 => ?_)
        · have h := h.1 c21
          refine jj_iconst hX dX0_tray_34 ci_0 35 rfl ?_
          exact txw0_tray_B35 hX hY hE XLe.rf (Nat.zero_le _) (Nat.zero_le _) h
        · have h := h.2 c21
          refine jj_iload_n hX dX0_tray_24 3 rfl 25 rfl ?_
          refine jj_bipush hX dX0_tray_25 cb_60 27 rfl ?_
          refine jj_icmp_gt hX dX0_tray_27 34 30 (by decide) rfl (fun c27 => ?_) (fun c27 => ?_)
          · have h := h.1 c27
            refine jj_iconst hX dX0_tray_34 ci_0 35 rfl ?_
            exact txw0_tray_B35 hX hY hE XLe.rf (Nat.zero_le _) (Nat.zero_le _) h
          · have h := h.2 c27
            refine jj_iconst hX dX0_tray_30 ci_1 31 rfl ?_
            refine jj_goto hX dX0_tray_31 35 (by decide) ?_
            exact txw0_tray_B35 hX hY hE XLe.rf (Nat.zero_le _) (Nat.zero_le _) h
theorem hd_xw0_tray : yX0_tray.cls ≠ "java/lang/invoke/MethodHandle" ∧ yX0_tray.cls ≠ "java/lang/invoke/VarHandle" ∧ (parseMethodDescriptor yX0_tray.desc).map (fun d => d.parameters.length) = some 3 := by decide +kernel
theorem kxw0_tray {X : JC} {A : Nat → Prop} {Q : State → Prop} {nL k n pc : Nat} {lv : List (Nat × Value)} {st : List Value} {own : String} {cc : ByteArray} {ret : Option FieldType} {F LL mc ms ix mc2 ms2 : Nat} {D : va_G} {dA aK aV : Nat → Nat} {K : XK} {u : XS} {x0 : Nat} {x1 : Int32} {x2 : Int32} {x3 : Int32} {Post : Int32 → XK → XS → Prop} (hX : JX X own cc nL ret F LL mc ms) (hY : JY X D dA aK aV A) (h1a : K x0 = (1, 0)) (hlk : (Cond.methodLink own ix yX0_tray) ∈ lw_all) (hF : 8 + 1 ≤ F) (hL : 8 + (5 + 11) + 10269 ≤ LL) (hk : k + mc2 ≤ mc) (hk2 : n + ms2 ≤ ms) (hw : (st.map fun v => v.category).sum ≤ 8) (d : decode cc pc = .ok (.invokevirtual ix, 3)) (q : Nat) (hq : pc + 3 = q) (h : xw0_tray x0 x1 x2 x3 K u mc2 ms2 Post) (kk : ∀ (r : Int32) (K2 : XK) (u2 : XS), XLe K K2 → jj_z r → Post r K2 u2 → JJ X A Q nL (XP D dA A K2 u2) (k + mc2) (n + ms2) q lv (.int r :: st)) : JJ X A Q nL (XP D dA A K u) k n pc lv (.int x3 :: .int x2 :: .int x1 :: .ref x0 :: st) :=
  jx_callWVz (na := 3) (As := [.int x1, .int x2, .int x3]) hX hY jf0 h1a (fun sz => mxw0_tray (jj_l X) hY.2.2.2.2 D dA aK aV x0 x1 x2 x3 K u mc2 ms2 Post h sz) hlk q507 q508 q120 q509 ⟨rfl, hd_xw0_tray⟩ rfl rfl hw hF hL hk hk2 d q hq kk
def xw0_on_B15 (Post : Nat → XK → XS → Prop) (PX : Nat → XK → XS → Prop) (mc ms : Nat) (x0 : Nat) (x1 : Int32) (s0 : Int32) (s1 : Nat) (K : XK) (u : XS) (c s : Nat) : Prop :=
  K s1 = (1, 0) ∧
  ∃ m16 w16, (c + m16) ≤ mc ∧ (s + w16) ≤ ms ∧ xw0_want s1 s0 (1 : Int32) K u m16 w16 (fun K16 u16 =>
    K16 x0 = (1, 0) ∧
    ∃ b25, (xr u16 x0 0) = some b25 ∧
    ∃ n25, K16 b25 = (9, n25) ∧
    vp_in x1 n25 ∧
    ∃ b26, (xr u16 b25 x1.toNatClampNeg) = some b26 ∧
    K16 b26 = (1, 1) ∧
    ((xr u16 b26 0) = none →
      ∃ m38 w38, ((c + m16) + m38) ≤ mc ∧ ((s + w16) + w38) ≤ ms ∧ xw0_want x0 (0 : Int32) (2 : Int32) K16 u16 m38 w38 (fun K38 u38 =>
        ∃ b46, (xr u38 x0 0) = some b46 ∧
        ∃ n46, K38 b46 = (9, n46) ∧
        vp_in x1 n46 ∧
        ∃ b47, (xr u38 b46 x1.toNatClampNeg) = some b47 ∧
        K38 b47 = (1, 1) ∧
        ∃ b50, (xr u38 b47 0) = some b50 ∧
        Post b50 K38 u38) (fun q38 K38 u38 =>
        PX q38 K38 u38)) ∧
    (¬ (xr u16 b26 0) = none →
      ∃ m38 w38, ((c + m16) + m38) ≤ mc ∧ ((s + w16) + w38) ≤ ms ∧ xw0_want x0 (1 : Int32) (2 : Int32) K16 u16 m38 w38 (fun K38 u38 =>
        ∃ b46, (xr u38 x0 0) = some b46 ∧
        ∃ n46, K38 b46 = (9, n46) ∧
        vp_in x1 n46 ∧
        ∃ b47, (xr u38 b46 x1.toNatClampNeg) = some b47 ∧
        K38 b47 = (1, 1) ∧
        ∃ b50, (xr u38 b47 0) = some b50 ∧
        Post b50 K38 u38) (fun q38 K38 u38 =>
        PX q38 K38 u38))) (fun q16 K16 u16 =>
    PX q16 K16 u16)
/-- RaisedPress.on(I)Ljava/lang/Object; -/
def xw0_on (x0 : Nat) (x1 : Int32) (K : XK) (u : XS) (mc ms : Nat) (Post : Nat → XK → XS → Prop) (PX : Nat → XK → XS → Prop) : Prop :=
  (x1 < 0 →
    xw0_on_B15 Post PX mc ms x0 x1 (0 : Int32) x0 K u 0 0) ∧
  (¬ x1 < 0 →
    ((4 : Int32) ≤ x1 →
      xw0_on_B15 Post PX mc ms x0 x1 (0 : Int32) x0 K u 0 0) ∧
    (¬ (4 : Int32) ≤ x1 →
      xw0_on_B15 Post PX mc ms x0 x1 (1 : Int32) x0 K u 0 0))
set_option maxHeartbeats 4000000 in
set_option maxRecDepth 100000 in
theorem txw0_on_B15 {X : JC} {D : va_G} {dA aK aV : Nat → Nat} {sz : Nat} {K0 : XK} {mc ms : Nat} {Post : Nat → XK → XS → Prop} {PX : Nat → XK → XS → Prop} {x0 : Nat} {x1 : Int32} {s0 : Int32} {s1 : Nat} {K : XK} {u : XS} {c s : Nat} (hX : JX X yX0_on.cls cX0_on 2 (Option.some (Jvm.ClassFile.FieldType.object "java/lang/Object")) 2 43 mc ms) (hY : JY X D dA aK aV (AX K0 sz)) (hE : JE X []) (hl : XLe K0 K) (hc : c ≤ mc) (hs : s ≤ ms) (h : xw0_on_B15 Post PX mc ms x0 x1 s0 s1 K u c s) : JJ X (AX K0 sz) (jx_QX X (jx_Qr (fun (r : Nat) (w : XK × XS) => Post r w.1 w.2) (jx_BA D dA K0 sz) (AX K0 sz)) (jx_XC 3 PX D dA K0 sz (AX K0 sz)) mc ms (AX K0 sz)) 2 (XP D dA (AX K0 sz) K u) c s 15 [(0, .ref x0), (1, .int x1)] [.int s0, .ref s1] := by
  unfold xw0_on_B15 at h
  refine jj_iconst hX dX0_on_15 ci_1 16 rfl ?_
  obtain ⟨k16, h⟩ := h
  obtain ⟨m16, w16, hc16, hs16, h⟩ := h
  refine kxw0_want hX hY k16 q539 (Nat.le_of_ble_eq_true rfl) (Nat.le_of_ble_eq_true rfl) hc16 hs16 (Nat.le_of_ble_eq_true rfl) dX0_on_16 19 rfl h (fun q16 K16 u16 hle16 h => jt_cs (k2 := (c + m16)) (n2 := (s + w16)) (by simp) (by simp) ?_) (fun K16 u16 hle16 h => jj_cs (k2 := (c + m16)) (n2 := (s + w16)) (by simp) (by simp) ?_)
  · have k16_1 := hle16.at k16 (by simp)
    have hl16 := hl.tr hle16
    exact jt_out (e := 3) hX hE hc16 hs16 hl16 h
  · have k16_1 := hle16.at k16 (by simp)
    have hl16 := hl.tr hle16
    refine jj_aload_n hX dX0_on_19 0 rfl 20 rfl ?_
    refine jj_aload_n hX dX0_on_20 0 rfl 21 rfl ?_
    obtain ⟨k21, h⟩ := h
    refine xg0_0 hX hY k21 dX0_on_21 q408 24 rfl ?_
    refine jj_iload_n hX dX0_on_24 1 rfl 25 rfl ?_
    obtain ⟨b25, g25, h⟩ := h
    refine jj_st (st2 := [.int x1, .ref b25, .ref x0]) (by rw [va_rf_some g25]) ?_
    obtain ⟨n25, k25, h⟩ := h
    obtain ⟨hi25, h⟩ := h
    refine jx_aald7 hX hY.1 k25 _ rfl hi25 dX0_on_25 26 rfl ?_
    obtain ⟨b26, g26, h⟩ := h
    refine jj_st (st2 := [.ref b26, .ref x0]) (by rw [va_rf_some g26]) ?_
    obtain ⟨k26, h⟩ := h
    refine xgn1_0 hX hY k26 dX0_on_26 nq165 29 rfl ?_
    refine jj_ifnull (r := (xr u16 b26 0)) hX dX0_on_29 36 32 (by decide) rfl (fun c29 => ?_) (fun c29 => ?_)
    · have h := h.1 c29
      refine jj_iconst hX dX0_on_36 ci_0 37 rfl ?_
      refine jj_iconst hX dX0_on_37 ci_2 38 rfl ?_
      obtain ⟨m38, w38, hc38, hs38, h⟩ := h
      refine kxw0_want hX hY k21 q539 (Nat.le_of_ble_eq_true rfl) (Nat.le_of_ble_eq_true rfl) hc38 hs38 (Nat.le_of_ble_eq_true rfl) dX0_on_38 41 rfl h (fun q38 K38 u38 hle38 h => jt_cs (k2 := ((c + m16) + m38)) (n2 := ((s + w16) + w38)) (by simp) (by simp) ?_) (fun K38 u38 hle38 h => jj_cs (k2 := ((c + m16) + m38)) (n2 := ((s + w16) + w38)) (by simp) (by simp) ?_)
      · have k38 := hle38.at k16_1 (by simp)
        have k38_1 := hle38.at k21 (by simp)
        have k38_2 := hle38.at k25 (by simp)
        have k38_3 := hle38.at k26 (by simp)
        have hl38 := hl16.tr hle38
        exact jt_out (e := 3) hX hE hc38 hs38 hl38 h
      · have k38 := hle38.at k16_1 (by simp)
        have k38_1 := hle38.at k21 (by simp)
        have k38_2 := hle38.at k25 (by simp)
        have k38_3 := hle38.at k26 (by simp)
        have hl38 := hl16.tr hle38
        refine jj_aload_n hX dX0_on_41 0 rfl 42 rfl ?_
        refine xg0_0 hX hY k38_1 dX0_on_42 q408 45 rfl ?_
        refine jj_iload_n hX dX0_on_45 1 rfl 46 rfl ?_
        obtain ⟨b46, g46, h⟩ := h
        refine jj_st (st2 := [.int x1, .ref b46]) (by rw [va_rf_some g46]) ?_
        obtain ⟨n46, k46, h⟩ := h
        obtain ⟨hi46, h⟩ := h
        refine jx_aald7 hX hY.1 k46 _ rfl hi46 dX0_on_46 47 rfl ?_
        obtain ⟨b47, g47, h⟩ := h
        refine jj_st (st2 := [.ref b47]) (by rw [va_rf_some g47]) ?_
        obtain ⟨k47, h⟩ := h
        refine xgn1_0 hX hY k47 dX0_on_47 nq165 50 rfl ?_
        obtain ⟨b50, g50, h⟩ := h
        refine jj_st (st2 := [.ref b50]) (by rw [va_rf_some g50]) ?_
        exact jt_ret (jj_retr (post := (fun (r : Nat) (w : XK × XS) => Post r w.1 w.2)) (u := (K38, u38)) hX (by first | exact Or.inl ⟨_, rfl⟩ | exact Or.inr ⟨_, rfl⟩) dX0_on_50 hc38 hs38 (jx_hBA hl38) h)
    · have h := h.2 c29
      refine jj_iconst hX dX0_on_32 ci_1 33 rfl ?_
      refine jj_goto hX dX0_on_33 37 (by decide) ?_
      refine jj_iconst hX dX0_on_37 ci_2 38 rfl ?_
      obtain ⟨m38, w38, hc38, hs38, h⟩ := h
      refine kxw0_want hX hY k21 q539 (Nat.le_of_ble_eq_true rfl) (Nat.le_of_ble_eq_true rfl) hc38 hs38 (Nat.le_of_ble_eq_true rfl) dX0_on_38 41 rfl h (fun q38 K38 u38 hle38 h => jt_cs (k2 := ((c + m16) + m38)) (n2 := ((s + w16) + w38)) (by simp) (by simp) ?_) (fun K38 u38 hle38 h => jj_cs (k2 := ((c + m16) + m38)) (n2 := ((s + w16) + w38)) (by simp) (by simp) ?_)
      · have k38 := hle38.at k16_1 (by simp)
        have k38_1 := hle38.at k21 (by simp)
        have k38_2 := hle38.at k25 (by simp)
        have k38_3 := hle38.at k26 (by simp)
        have hl38 := hl16.tr hle38
        exact jt_out (e := 3) hX hE hc38 hs38 hl38 h
      · have k38 := hle38.at k16_1 (by simp)
        have k38_1 := hle38.at k21 (by simp)
        have k38_2 := hle38.at k25 (by simp)
        have k38_3 := hle38.at k26 (by simp)
        have hl38 := hl16.tr hle38
        refine jj_aload_n hX dX0_on_41 0 rfl 42 rfl ?_
        refine xg0_0 hX hY k38_1 dX0_on_42 q408 45 rfl ?_
        refine jj_iload_n hX dX0_on_45 1 rfl 46 rfl ?_
        obtain ⟨b46, g46, h⟩ := h
        refine jj_st (st2 := [.int x1, .ref b46]) (by rw [va_rf_some g46]) ?_
        obtain ⟨n46, k46, h⟩ := h
        obtain ⟨hi46, h⟩ := h
        refine jx_aald7 hX hY.1 k46 _ rfl hi46 dX0_on_46 47 rfl ?_
        obtain ⟨b47, g47, h⟩ := h
        refine jj_st (st2 := [.ref b47]) (by rw [va_rf_some g47]) ?_
        obtain ⟨k47, h⟩ := h
        refine xgn1_0 hX hY k47 dX0_on_47 nq165 50 rfl ?_
        obtain ⟨b50, g50, h⟩ := h
        refine jj_st (st2 := [.ref b50]) (by rw [va_rf_some g50]) ?_
        exact jt_ret (jj_retr (post := (fun (r : Nat) (w : XK × XS) => Post r w.1 w.2)) (u := (K38, u38)) hX (by first | exact Or.inl ⟨_, rfl⟩ | exact Or.inr ⟨_, rfl⟩) dX0_on_50 hc38 hs38 (jx_hBA hl38) h)
set_option maxHeartbeats 4000000 in
set_option maxRecDepth 100000 in
theorem mxw0_on (l : Launch) (hfl : l.stackTraces = false) (D : va_G) (dA aK aV : Nat → Nat) (x0 : Nat) (x1 : Int32) (K : XK) (u : XS) (mc ms : Nat) (Post : Nat → XK → XS → Prop) (PX : Nat → XK → XS → Prop) (h : xw0_on x0 x1 K u mc ms Post PX) (sz : Nat) : vx_Met l yX0_on (ws_ yX0_on cX0_on 2 (Option.some (Jvm.ClassFile.FieldType.object "java/lang/Object"))) (jx_rm 2 43 mc ms) (jx_Pc D dA aK aV K u sz [.ref x0, .int x1]) (jx_Qr (fun (r : Nat) (w : XK × XS) => Post r w.1 w.2) (jx_BA D dA K sz) (AX K sz)) (jx_XC 3 PX D dA K sz (AX K sz)) mc ms (AX K sz) := by
  refine jx_startT hfl [.ref x0, .int x1] [(0, .ref x0), (1, .int x1)] (by decide) (Nat.le_of_ble_eq_true rfl) rfl (fun X hX hY hE => ?_)
  unfold xw0_on at h
  refine jj_aload_n hX dX0_on_0 0 rfl 1 rfl ?_
  refine jj_iload_n hX dX0_on_1 1 rfl 2 rfl ?_
  refine jj_if_lt hX dX0_on_2 14 5 (by decide) rfl (fun c2 => ?_) (fun c2 => ?_)
  · have h := h.1 c2
    refine jj_iconst hX dX0_on_14 ci_0 15 rfl ?_
    exact txw0_on_B15 hX hY hE XLe.rf (Nat.zero_le _) (Nat.zero_le _) h
  · have h := h.2 c2
    refine jj_iload_n hX dX0_on_5 1 rfl 6 rfl ?_
    refine jj_iconst hX dX0_on_6 ci_4 7 rfl ?_
    refine jj_icmp_ge hX dX0_on_7 14 10 (by decide) rfl (fun c7 => ?_) (fun c7 => ?_)
    · have h := h.1 c7
      refine jj_iconst hX dX0_on_14 ci_0 15 rfl ?_
      exact txw0_on_B15 hX hY hE XLe.rf (Nat.zero_le _) (Nat.zero_le _) h
    · have h := h.2 c7
      refine jj_iconst hX dX0_on_10 ci_1 11 rfl ?_
      refine jj_goto hX dX0_on_11 15 (by decide) ?_
      exact txw0_on_B15 hX hY hE XLe.rf (Nat.zero_le _) (Nat.zero_le _) h
theorem hd_xw0_on : yX0_on.cls ≠ "java/lang/invoke/MethodHandle" ∧ yX0_on.cls ≠ "java/lang/invoke/VarHandle" ∧ (parseMethodDescriptor yX0_on.desc).map (fun d => d.parameters.length) = some 1 := by decide +kernel
theorem kxw0_on {X : JC} {A : Nat → Prop} {Q : State → Prop} {nL k n pc : Nat} {lv : List (Nat × Value)} {st : List Value} {own : String} {cc : ByteArray} {ret : Option FieldType} {F LL mc ms ix mc2 ms2 : Nat} {D : va_G} {dA aK aV : Nat → Nat} {K : XK} {u : XS} {x0 : Nat} {x1 : Int32} {Post : Nat → XK → XS → Prop} {PX : Nat → XK → XS → Prop} (hX : JX X own cc nL ret F LL mc ms) (hY : JY X D dA aK aV A) (h1a : K x0 = (1, 0)) (hlk : (Cond.methodLink own ix yX0_on) ∈ lw_all) (hF : 2 + 1 ≤ F) (hL : 8 + (2 + 11) + 43 ≤ LL) (hk : k + mc2 ≤ mc) (hk2 : n + ms2 ≤ ms) (hw : (st.map fun v => v.category).sum ≤ 8) (d : decode cc pc = .ok (.invokevirtual ix, 3)) (q : Nat) (hq : pc + 3 = q) (h : xw0_on x0 x1 K u mc2 ms2 Post PX) (kx : ∀ (q9 : Nat) (K2 : XK) (u2 : XS), XLe K K2 → PX q9 K2 u2 → JT X A Q nL (XP D dA A K2 u2) (k + mc2) (n + ms2) pc lv (jx_en 3) q9) (kk : ∀ (r : Nat) (K2 : XK) (u2 : XS), XLe K K2 → Post r K2 u2 → JJ X A Q nL (XP D dA A K2 u2) (k + mc2) (n + ms2) q lv (.ref r :: st)) : JJ X A Q nL (XP D dA A K u) k n pc lv (.int x1 :: .ref x0 :: st) :=
  jx_callTVr (na := 1) (As := [.int x1]) hX hY jf0 h1a (fun sz => mxw0_on (jj_l X) hY.2.2.2.2 D dA aK aV x0 x1 K u mc2 ms2 Post PX h sz) hlk q581 qs3 q120 q582 ⟨rfl, hd_xw0_on⟩ rfl rfl hw hF hL hk hk2 d q hq kx kk
/-- RaisedPress.put(Ljava/lang/Object;IJ)V -/
def xw0_put (x0 : Nat) (x1 : Int32) (x2 : Int64) (K : XK) (u : XS) (mc ms : Nat) (Post : XK → XS → Prop) (PX : Nat → XK → XS → Prop) : Prop :=
  xTray K x0 ∧ ∀ v1 : Int32, v1 = jx_is K x0 1 →
  (v1 = 0 →
    xTray K x0 ∧ ((K x0).1 ≠ 3) ∧ ∀ v24 : Int32, v24 = jx_is K x0 2 →
    (v24 = 0 →
      xTray K x0 ∧ ((K x0).1 ≠ 3 ∧ (K x0).1 ≠ 4) ∧ ∀ v47 : Int32, v47 = jx_is K x0 0 →
      (v47 = 0 →
        ∃ n69, K x0 = (5, n69) ∧
        (vp_in x1 n69 →
          ∀ u74 : XS, u74 = xsl u x0 x1.toNatClampNeg x2 →
          Post K u74) ∧
        (¬ vp_in x1 n69 → n69 < 2147483648 ∧ 3 ≤ mc ∧ 222 ≤ ms ∧ ∀ q74 : Nat,
          PX q74 K u)) ∧
      (¬ v47 = 0 →
        ∃ n54, K x0 = (2, n54) ∧
        (vp_in x1 n54 →
          ∀ u64 : XS, u64 = xsi u x0 x1.toNatClampNeg x2.toInt32 →
          Post K u64) ∧
        (¬ vp_in x1 n54 → n54 < 2147483648 ∧ 3 ≤ mc ∧ 222 ≤ ms ∧ ∀ q64 : Nat,
          PX q64 K u))) ∧
    (¬ v24 = 0 →
      ∃ n31, K x0 = (4, n31) ∧
      (vp_in x1 n31 →
        ∀ u42 : XS, u42 = xsi u x0 x1.toNatClampNeg x2.toInt32.toInt16.toInt32.toInt16.toInt32 →
        Post K u42) ∧
      (¬ vp_in x1 n31 → n31 < 2147483648 ∧ 3 ≤ mc ∧ 222 ≤ ms ∧ ∀ q42 : Nat,
        PX q42 K u))) ∧
  (¬ v1 = 0 →
    ∃ n8, K x0 = (3, n8) ∧
    (vp_in x1 n8 →
      ∀ u19 : XS, u19 = xsi u x0 x1.toNatClampNeg x2.toInt32.toInt8.toInt32.toInt8.toInt32 →
      Post K u19) ∧
    (¬ vp_in x1 n8 → n8 < 2147483648 ∧ 3 ≤ mc ∧ 222 ≤ ms ∧ ∀ q19 : Nat,
      PX q19 K u))
set_option maxHeartbeats 4000000 in
set_option maxRecDepth 100000 in
theorem mxw0_put (l : Launch) (hfl : l.stackTraces = false) (D : va_G) (dA aK aV : Nat → Nat) (x0 : Nat) (x1 : Int32) (x2 : Int64) (K : XK) (u : XS) (mc ms : Nat) (Post : XK → XS → Prop) (PX : Nat → XK → XS → Prop) (h : xw0_put x0 x1 x2 K u mc ms Post PX) (sz : Nat) : vx_Met l yX0_put (ws_ yX0_put cX0_put 7 (Option.none : Option Jvm.ClassFile.FieldType)) (jx_rm 8 10248 mc ms) (jx_Pc D dA aK aV K u sz [.ref x0, .int x1, .long x2]) (va_Qv (fun w : XK × XS => Post w.1 w.2) (jx_BA D dA K sz) (AX K sz)) (jx_XC 100 PX D dA K sz (AX K sz)) mc ms (AX K sz) := by
  refine jx_startT hfl [.ref x0, .int x1, .long x2] [(0, .ref x0), (1, .int x1), (2, .long x2)] (by decide) (Nat.le_of_ble_eq_true rfl) rfl (fun X hX hY hE => ?_)
  unfold xw0_put at h
  refine jj_aload_n hX dX0_put_0 0 rfl 1 rfl ?_
  obtain ⟨ht1, h⟩ := h
  refine jx_inst (t := 1) hX hY ht1 (by decide) (fun q => by cases q) (fun q => by cases q) (jx_nm1 hY) rfl q586 dX0_put_1 4 rfl (fun v1 e1 => ?_)
  have h := h v1 e1
  refine jj_if_eq hX dX0_put_4 23 7 (by decide) rfl (fun c4 => ?_) (fun c4 => ?_)
  · have h := h.1 c4
    refine jj_aload_n hX dX0_put_23 0 rfl 24 rfl ?_
    obtain ⟨ht24, hn24, h⟩ := h
    refine jx_inst (t := 2) hX hY ht24 (by decide) (fun q => by cases q) (fun _ => hn24) (jx_nm2 hY) rfl q587 dX0_put_24 27 rfl (fun v24 e24 => ?_)
    have h := h v24 e24
    refine jj_if_eq hX dX0_put_27 46 30 (by decide) rfl (fun c27 => ?_) (fun c27 => ?_)
    · have h := h.1 c27
      refine jj_aload_n hX dX0_put_46 0 rfl 47 rfl ?_
      obtain ⟨ht47, hn47, h⟩ := h
      refine jx_inst (t := 0) hX hY ht47 (by decide) (fun _ => hn47) (fun q => by cases q) (jx_nm0 hY) rfl q588 dX0_put_47 50 rfl (fun v47 e47 => ?_)
      have h := h v47 e47
      refine jj_if_eq hX dX0_put_50 68 53 (by decide) rfl (fun c50 => ?_) (fun c50 => ?_)
      · have h := h.1 c50
        refine jj_aload_n hX dX0_put_68 0 rfl 69 rfl ?_
        obtain ⟨n69, k69, h⟩ := h
        refine jx_acast (t := 3) hX hY k69 (jx_nm3 hY) q589 dX0_put_69 72 rfl ?_
        refine jj_iload_n hX dX0_put_72 1 rfl 73 rfl ?_
        refine jj_lload_n hX dX0_put_73 2 rfl 74 rfl ?_
        by_cases hi74_1 : vp_in x1 n69
        · have h := h.1 hi74_1
          refine jx_last hX hY.1 k69 _ rfl hi74_1 dX0_put_74 75 rfl (fun u74 e74 => ?_)
          have h := h u74 e74
          exact jt_ret (jj_retv (post := (fun w : XK × XS => Post w.1 w.2)) (u := (K, u74)) hX dX0_put_75 (Nat.zero_le _) (Nat.zero_le _) (jx_hBA XLe.rf) h)
        · obtain ⟨hn74, hc74, hs74, h⟩ := h.2 hi74_1
          refine jv_last hX hY k69 hi74_1 hn74 (Nat.le_of_ble_eq_true rfl) (Nat.le_of_ble_eq_true rfl) (by simp [jx_rfc, jx_c1, jx_c2, jx_c3, jx_c4]) (by simpa using hc74) (by simpa using hs74) dX0_put_74 (fun q74 => jt_cs (k2 := 3) (n2 := 222) (by simp) (by simp) ?_)
          have h := h q74
          exact jt_out (e := 100) hX hE hc74 hs74 XLe.rf h
      · have h := h.2 c50
        refine jj_aload_n hX dX0_put_53 0 rfl 54 rfl ?_
        obtain ⟨n54, k54, h⟩ := h
        refine jx_acast (t := 0) hX hY k54 (jx_nm0 hY) q588 dX0_put_54 57 rfl ?_
        refine jj_astore (lv2 := [(1, .int x1), (2, .long x2), (6, .ref x0)]) hX dX0_put_57 (Nat.le_of_ble_eq_true rfl) [2, 3, 0] rfl 59 rfl ?_
        refine jj_aload hX dX0_put_59 2 rfl 61 rfl ?_
        refine jj_iload_n hX dX0_put_61 0 rfl 62 rfl ?_
        refine jj_lload_n hX dX0_put_62 1 rfl 63 rfl ?_
        refine jj_l2i hX dX0_put_63 64 rfl ?_
        by_cases hi64_1 : vp_in x1 n54
        · have h := h.1 hi64_1
          refine jx_iast hX hY.1 k54 _ rfl hi64_1 dX0_put_64 65 rfl (fun u64 e64 => ?_)
          have h := h u64 e64
          refine jj_goto hX dX0_put_65 75 (by decide) ?_
          exact jt_ret (jj_retv (post := (fun w : XK × XS => Post w.1 w.2)) (u := (K, u64)) hX dX0_put_75 (Nat.zero_le _) (Nat.zero_le _) (jx_hBA XLe.rf) h)
        · obtain ⟨hn64, hc64, hs64, h⟩ := h.2 hi64_1
          refine jv_iast hX hY k54 hi64_1 hn64 (Nat.le_of_ble_eq_true rfl) (Nat.le_of_ble_eq_true rfl) (by simp [jx_rfc, jx_c1, jx_c2, jx_c3, jx_c4]) (by simpa using hc64) (by simpa using hs64) dX0_put_64 (fun q64 => jt_cs (k2 := 3) (n2 := 222) (by simp) (by simp) ?_)
          have h := h q64
          exact jt_out (e := 100) hX hE hc64 hs64 XLe.rf h
    · have h := h.2 c27
      refine jj_aload_n hX dX0_put_30 0 rfl 31 rfl ?_
      obtain ⟨n31, k31, h⟩ := h
      refine jx_acast (t := 2) hX hY k31 (jx_nm2 hY) q587 dX0_put_31 34 rfl ?_
      refine jj_astore (lv2 := [(1, .int x1), (2, .long x2), (5, .ref x0)]) hX dX0_put_34 (Nat.le_of_ble_eq_true rfl) [2, 3, 0] rfl 36 rfl ?_
      refine jj_aload hX dX0_put_36 2 rfl 38 rfl ?_
      refine jj_iload_n hX dX0_put_38 0 rfl 39 rfl ?_
      refine jj_lload_n hX dX0_put_39 1 rfl 40 rfl ?_
      refine jj_l2i hX dX0_put_40 41 rfl ?_
      refine jj_i2s hX dX0_put_41 42 rfl ?_
      by_cases hi42_1 : vp_in x1 n31
      · have h := h.1 hi42_1
        refine jx_sast hX hY.1 k31 _ rfl hi42_1 dX0_put_42 43 rfl (fun u42 e42 => ?_)
        have h := h u42 e42
        refine jj_goto hX dX0_put_43 75 (by decide) ?_
        exact jt_ret (jj_retv (post := (fun w : XK × XS => Post w.1 w.2)) (u := (K, u42)) hX dX0_put_75 (Nat.zero_le _) (Nat.zero_le _) (jx_hBA XLe.rf) h)
      · obtain ⟨hn42, hc42, hs42, h⟩ := h.2 hi42_1
        refine jv_sast hX hY k31 hi42_1 hn42 (Nat.le_of_ble_eq_true rfl) (Nat.le_of_ble_eq_true rfl) (by simp [jx_rfc, jx_c1, jx_c2, jx_c3, jx_c4]) (by simpa using hc42) (by simpa using hs42) dX0_put_42 (fun q42 => jt_cs (k2 := 3) (n2 := 222) (by simp) (by simp) ?_)
        have h := h q42
        exact jt_out (e := 100) hX hE hc42 hs42 XLe.rf h
  · have h := h.2 c4
    refine jj_aload_n hX dX0_put_7 0 rfl 8 rfl ?_
    obtain ⟨n8, k8, h⟩ := h
    refine jx_acast (t := 1) hX hY k8 (jx_nm1 hY) q586 dX0_put_8 11 rfl ?_
    refine jj_astore (lv2 := [(1, .int x1), (2, .long x2), (4, .ref x0)]) hX dX0_put_11 (Nat.le_of_ble_eq_true rfl) [2, 3, 0] rfl 13 rfl ?_
    refine jj_aload hX dX0_put_13 2 rfl 15 rfl ?_
    refine jj_iload_n hX dX0_put_15 0 rfl 16 rfl ?_
    refine jj_lload_n hX dX0_put_16 1 rfl 17 rfl ?_
    refine jj_l2i hX dX0_put_17 18 rfl ?_
    refine jj_i2b hX dX0_put_18 19 rfl ?_
    by_cases hi19_1 : vp_in x1 n8
    · have h := h.1 hi19_1
      refine jx_bast hX hY.1 k8 _ rfl hi19_1 dX0_put_19 20 rfl (fun u19 e19 => ?_)
      have h := h u19 e19
      refine jj_goto hX dX0_put_20 75 (by decide) ?_
      exact jt_ret (jj_retv (post := (fun w : XK × XS => Post w.1 w.2)) (u := (K, u19)) hX dX0_put_75 (Nat.zero_le _) (Nat.zero_le _) (jx_hBA XLe.rf) h)
    · obtain ⟨hn19, hc19, hs19, h⟩ := h.2 hi19_1
      refine jv_bast hX hY k8 hi19_1 hn19 (Nat.le_of_ble_eq_true rfl) (Nat.le_of_ble_eq_true rfl) (by simp [jx_rfc, jx_c1, jx_c2, jx_c3, jx_c4]) (by simpa using hc19) (by simpa using hs19) dX0_put_19 (fun q19 => jt_cs (k2 := 3) (n2 := 222) (by simp) (by simp) ?_)
      have h := h q19
      exact jt_out (e := 100) hX hE hc19 hs19 XLe.rf h
theorem hd_xw0_put : yX0_put.cls ≠ "java/lang/invoke/MethodHandle" ∧ yX0_put.cls ≠ "java/lang/invoke/VarHandle" ∧ (parseMethodDescriptor yX0_put.desc).map (fun d => d.parameters.length) = some 3 := by decide +kernel
theorem kxw0_put {X : JC} {A : Nat → Prop} {Q : State → Prop} {nL k n pc : Nat} {lv : List (Nat × Value)} {st : List Value} {own : String} {cc : ByteArray} {ret : Option FieldType} {F LL mc ms ix mc2 ms2 : Nat} {D : va_G} {dA aK aV : Nat → Nat} {K : XK} {u : XS} {x0 : Nat} {x1 : Int32} {x2 : Int64} {Post : XK → XS → Prop} {PX : Nat → XK → XS → Prop} (hX : JX X own cc nL ret F LL mc ms) (hY : JY X D dA aK aV A) (hlk : (Cond.methodLink own ix yX0_put) ∈ lw_all) (hF : 8 + 1 ≤ F) (hL : 8 + (7 + 11) + 10248 ≤ LL) (hk : k + mc2 ≤ mc) (hk2 : n + ms2 ≤ ms) (hw : (st.map fun v => v.category).sum ≤ 8) (d : decode cc pc = .ok (.invokestatic ix, 3)) (q : Nat) (hq : pc + 3 = q) (h : xw0_put x0 x1 x2 K u mc2 ms2 Post PX) (kx : ∀ (q9 : Nat) (K2 : XK) (u2 : XS), XLe K K2 → PX q9 K2 u2 → JT X A Q nL (XP D dA A K2 u2) (k + mc2) (n + ms2) pc lv (jx_en 100) q9) (kk : ∀ (K2 : XK) (u2 : XS), XLe K K2 → Post K2 u2 → JJ X A Q nL (XP D dA A K2 u2) (k + mc2) (n + ms2) q lv (st)) : JJ X A Q nL (XP D dA A K u) k n pc lv (.long x2 :: .int x1 :: .ref x0 :: st) :=
  jx_callTSv (na := 3) (As := [.ref x0, .int x1, .long x2]) hX hY (fun sz => mxw0_put (jj_l X) hY.2.2.2.2 D dA aK aV x0 x1 x2 K u mc2 ms2 Post PX h sz) hlk q584 q120 q585 hd_xw0_put rfl rfl hw hF hL hk hk2 d q hq kx kk
/-- RaisedPress.write(IIJ)Z -/
def xw0_write (x0 : Nat) (x1 : Int32) (x2 : Int32) (x3 : Int64) (K : XK) (u : XS) (mc ms : Nat) (Post : Int32 → XK → XS → Prop) : Prop :=
  K x0 = (1, 0) ∧
  ∀ u2 : XS, u2 = xsi u x0 7 (0 : Int32) →
  ∃ m7 w7, m7 ≤ mc ∧ w7 ≤ ms ∧ xw0_on x0 x1 K u2 m7 w7 (fun r7 K7 u7 =>
    ∃ m12 w12, (m7 + m12) ≤ mc ∧ (w7 + w12) ≤ ms ∧ xw0_put r7 x2 x3 K7 u7 m12 w12 (fun K12 u12 =>
      Post (1 : Int32) K12 u12) (fun q12 K12 u12 =>
      ∀ u21 : XS, u21 = xsi u12 x0 7 (3 : Int32) →
      Post (0 : Int32) K12 u21)) (fun q7 K7 u7 =>
    xw0_no x0 q7 K7 u7 (fun r31 u31 =>
      Post r31 K7 u31))
set_option maxHeartbeats 4000000 in
set_option maxRecDepth 100000 in
theorem mxw0_write (l : Launch) (hfl : l.stackTraces = false) (D : va_G) (dA aK aV : Nat → Nat) (x0 : Nat) (x1 : Int32) (x2 : Int32) (x3 : Int64) (K : XK) (u : XS) (mc ms : Nat) (Post : Int32 → XK → XS → Prop) (h : xw0_write x0 x1 x2 x3 K u mc ms Post) (sz : Nat) : Met l yX0_write (wsW_ yX0_write cX0_write 6 (Option.some Jvm.ClassFile.FieldType.boolean) [(5, 16, 17, 163), (5, 16, 26, 48)]) (jx_rm 9 10274 mc ms) (jx_Pc D dA aK aV K u sz [.ref x0, .int x1, .int x2, .long x3]) (va_Qi (fun (r : Int32) (w : XK × XS) => Post r w.1 w.2 ∧ jj_z r) (jx_BA D dA K sz) (AX K sz)) mc ms (AX K sz) := by
  refine jx_startW hfl [.ref x0, .int x1, .int x2, .long x3] [(0, .ref x0), (1, .int x1), (2, .int x2), (3, .long x3)] (by decide) (Nat.le_of_ble_eq_true rfl) rfl (fun X hX hY hE => ?_)
  unfold xw0_write at h
  refine jj_aload_n hX dX0_write_0 0 rfl 1 rfl ?_
  refine jj_iconst hX dX0_write_1 ci_0 2 rfl ?_
  obtain ⟨k2, h⟩ := h
  refine xp0_7 hX hY k2 dX0_write_2 q418 5 rfl (fun u2 e2 => ?_)
  have h := h u2 e2
  refine jj_aload_n hX dX0_write_5 0 rfl 6 rfl ?_
  refine jj_iload_n hX dX0_write_6 1 rfl 7 rfl ?_
  obtain ⟨m7, w7, hc7, hs7, h⟩ := h
  refine kxw0_on hX hY k2 q579 (Nat.le_of_ble_eq_true rfl) (Nat.le_of_ble_eq_true rfl) (by simpa using hc7) (by simpa using hs7) (Nat.le_of_ble_eq_true rfl) dX0_write_7 10 rfl h (fun q7 K7 u7 hle7 h => jt_cs (k2 := m7) (n2 := w7) (by simp) (by simp) ?_) (fun r7 K7 u7 hle7 h => jj_cs (k2 := m7) (n2 := w7) (by simp) (by simp) ?_)
  · have k7 := hle7.at k2 (by simp)
    have hl7 := XLe.rf.tr hle7
    refine jt_catch2 (nm := "RaisedPress$Refused") (nm1 := "java/lang/ArrayIndexOutOfBoundsException") hX hY.2.1 hE (by decide) q560 (by decide) rfl (by decide) q239 nq241 ?_
    refine jj_astore (lv2 := [(0, .ref x0), (5, .ref q7)]) hX dX0_write_26 (Nat.le_of_ble_eq_true rfl) [1, 0] rfl 28 rfl ?_
    refine jj_aload_n hX dX0_write_28 0 rfl 29 rfl ?_
    refine jj_aload hX dX0_write_29 1 rfl 31 rfl ?_
    refine kxw0_no hX hY k7 q550 (Nat.le_of_ble_eq_true rfl) (Nat.le_of_ble_eq_true rfl) hc7 hs7 (Nat.le_of_ble_eq_true rfl) dX0_write_31 34 rfl h (fun r31 u31 hb31 h => ?_)
    exact jj_retz (post := (fun (r : Int32) (w : XK × XS) => Post r w.1 w.2)) (u := (K7, u31)) hX dX0_write_34 hc7 hs7 (jx_hBA hl7) hb31 h
  · have k7 := hle7.at k2 (by simp)
    have hl7 := XLe.rf.tr hle7
    refine jj_iload_n hX dX0_write_10 2 rfl 11 rfl ?_
    refine jj_lload_n hX dX0_write_11 3 rfl 12 rfl ?_
    obtain ⟨m12, w12, hc12, hs12, h⟩ := h
    refine kxw0_put hX hY q583 (Nat.le_of_ble_eq_true rfl) (Nat.le_of_ble_eq_true rfl) hc12 hs12 (Nat.le_of_ble_eq_true rfl) dX0_write_12 15 rfl h (fun q12 K12 u12 hle12 h => jt_cs (k2 := (m7 + m12)) (n2 := (w7 + w12)) (by simp) (by simp) ?_) (fun K12 u12 hle12 h => jj_cs (k2 := (m7 + m12)) (n2 := (w7 + w12)) (by simp) (by simp) ?_)
    · have k12 := hle12.at k7 (by simp)
      have hl12 := hl7.tr hle12
      refine jt_catch0 (nm := "java/lang/ArrayIndexOutOfBoundsException") hX hY.2.1 hE rfl (by decide) q560 nq575 ?_
      refine jj_astore (lv2 := [(0, .ref x0), (5, .ref q12)]) hX dX0_write_17 (Nat.le_of_ble_eq_true rfl) [1, 0] rfl 19 rfl ?_
      refine jj_aload_n hX dX0_write_19 0 rfl 20 rfl ?_
      refine jj_iconst hX dX0_write_20 ci_3 21 rfl ?_
      refine xp0_7 hX hY k12 dX0_write_21 q418 24 rfl (fun u21 e21 => ?_)
      have h := h u21 e21
      refine jj_iconst hX dX0_write_24 ci_0 25 rfl ?_
      exact jj_retz (post := (fun (r : Int32) (w : XK × XS) => Post r w.1 w.2)) (u := (K12, u21)) hX dX0_write_25 hc12 hs12 (jx_hBA hl12) jj_z0 h
    · have k12 := hle12.at k7 (by simp)
      have hl12 := hl7.tr hle12
      refine jj_iconst hX dX0_write_15 ci_1 16 rfl ?_
      exact jj_retz (post := (fun (r : Int32) (w : XK × XS) => Post r w.1 w.2)) (u := (K12, u12)) hX dX0_write_16 hc12 hs12 (jx_hBA hl12) jj_z1 h
theorem hd_xw0_write : yX0_write.cls ≠ "java/lang/invoke/MethodHandle" ∧ yX0_write.cls ≠ "java/lang/invoke/VarHandle" ∧ (parseMethodDescriptor yX0_write.desc).map (fun d => d.parameters.length) = some 3 := by decide +kernel
theorem kxw0_write {X : JC} {A : Nat → Prop} {Q : State → Prop} {nL k n pc : Nat} {lv : List (Nat × Value)} {st : List Value} {own : String} {cc : ByteArray} {ret : Option FieldType} {F LL mc ms ix mc2 ms2 : Nat} {D : va_G} {dA aK aV : Nat → Nat} {K : XK} {u : XS} {x0 : Nat} {x1 : Int32} {x2 : Int32} {x3 : Int64} {Post : Int32 → XK → XS → Prop} (hX : JX X own cc nL ret F LL mc ms) (hY : JY X D dA aK aV A) (h1a : K x0 = (1, 0)) (hlk : (Cond.methodLink own ix yX0_write) ∈ lw_all) (hF : 9 + 1 ≤ F) (hL : 8 + (6 + 11) + 10274 ≤ LL) (hk : k + mc2 ≤ mc) (hk2 : n + ms2 ≤ ms) (hw : (st.map fun v => v.category).sum ≤ 8) (d : decode cc pc = .ok (.invokevirtual ix, 3)) (q : Nat) (hq : pc + 3 = q) (h : xw0_write x0 x1 x2 x3 K u mc2 ms2 Post) (kk : ∀ (r : Int32) (K2 : XK) (u2 : XS), XLe K K2 → jj_z r → Post r K2 u2 → JJ X A Q nL (XP D dA A K2 u2) (k + mc2) (n + ms2) q lv (.int r :: st)) : JJ X A Q nL (XP D dA A K u) k n pc lv (.long x3 :: .int x2 :: .int x1 :: .ref x0 :: st) :=
  jx_callWVz (na := 3) (As := [.int x1, .int x2, .long x3]) hX hY jf0 h1a (fun sz => mxw0_write (jj_l X) hY.2.2.2.2 D dA aK aV x0 x1 x2 x3 K u mc2 ms2 Post h sz) hlk q557 q558 q120 q559 ⟨rfl, hd_xw0_write⟩ rfl rfl hw hF hL hk hk2 d q hq kk
/-- RaisedPress.number(Ljava/lang/Object;I)J -/
def xw0_number (x0 : Nat) (x1 : Int32) (K : XK) (u : XS) (mc ms : Nat) (Post : Int64 → XK → XS → Prop) (PX : Nat → XK → XS → Prop) : Prop :=
  xTray K x0 ∧ ∀ v1 : Int32, v1 = jx_is K x0 1 →
  (v1 = 0 →
    xTray K x0 ∧ ((K x0).1 ≠ 3) ∧ ∀ v18 : Int32, v18 = jx_is K x0 2 →
    (v18 = 0 →
      xTray K x0 ∧ ((K x0).1 ≠ 3 ∧ (K x0).1 ≠ 4) ∧ ∀ v35 : Int32, v35 = jx_is K x0 0 →
      (v35 = 0 →
        ∃ n54, K x0 = (5, n54) ∧
        (vp_in x1 n54 →
          Post (xl u x0 x1.toNatClampNeg) K u) ∧
        (¬ vp_in x1 n54 → n54 < 2147483648 ∧ 3 ≤ mc ∧ 222 ≤ ms ∧ ∀ q58 : Nat,
          PX q58 K u)) ∧
      (¬ v35 = 0 →
        ∃ n42, K x0 = (2, n42) ∧
        (vp_in x1 n42 →
          Post (xi u x0 x1.toNatClampNeg).toInt64 K u) ∧
        (¬ vp_in x1 n42 → n42 < 2147483648 ∧ 3 ≤ mc ∧ 222 ≤ ms ∧ ∀ q48 : Nat,
          PX q48 K u))) ∧
    (¬ v18 = 0 →
      ∃ n25, K x0 = (4, n25) ∧
      (vp_in x1 n25 →
        Post (xi u x0 x1.toNatClampNeg).toInt64 K u) ∧
      (¬ vp_in x1 n25 → n25 < 2147483648 ∧ 3 ≤ mc ∧ 222 ≤ ms ∧ ∀ q31 : Nat,
        PX q31 K u))) ∧
  (¬ v1 = 0 →
    ∃ n8, K x0 = (3, n8) ∧
    (vp_in x1 n8 →
      Post (xi u x0 x1.toNatClampNeg).toInt64 K u) ∧
    (¬ vp_in x1 n8 → n8 < 2147483648 ∧ 3 ≤ mc ∧ 222 ≤ ms ∧ ∀ q14 : Nat,
      PX q14 K u))
set_option maxHeartbeats 4000000 in
set_option maxRecDepth 100000 in
theorem mxw0_number (l : Launch) (hfl : l.stackTraces = false) (D : va_G) (dA aK aV : Nat → Nat) (x0 : Nat) (x1 : Int32) (K : XK) (u : XS) (mc ms : Nat) (Post : Int64 → XK → XS → Prop) (PX : Nat → XK → XS → Prop) (h : xw0_number x0 x1 K u mc ms Post PX) (sz : Nat) : vx_Met l yX0_number (ws_ yX0_number cX0_number 3 (Option.some Jvm.ClassFile.FieldType.long)) (jx_rm 8 10248 mc ms) (jx_Pc D dA aK aV K u sz [.ref x0, .int x1]) (va_Ql (fun (r : Int64) (w : XK × XS) => Post r w.1 w.2) (jx_BA D dA K sz) (AX K sz)) (jx_XC 100 PX D dA K sz (AX K sz)) mc ms (AX K sz) := by
  refine jx_startT hfl [.ref x0, .int x1] [(0, .ref x0), (1, .int x1)] (by decide) (Nat.le_of_ble_eq_true rfl) rfl (fun X hX hY hE => ?_)
  unfold xw0_number at h
  refine jj_aload_n hX dX0_number_0 0 rfl 1 rfl ?_
  obtain ⟨ht1, h⟩ := h
  refine jx_inst (t := 1) hX hY ht1 (by decide) (fun q => by cases q) (fun q => by cases q) (jx_nm1 hY) rfl q586 dX0_number_1 4 rfl (fun v1 e1 => ?_)
  have h := h v1 e1
  refine jj_if_eq hX dX0_number_4 17 7 (by decide) rfl (fun c4 => ?_) (fun c4 => ?_)
  · have h := h.1 c4
    refine jj_aload_n hX dX0_number_17 0 rfl 18 rfl ?_
    obtain ⟨ht18, hn18, h⟩ := h
    refine jx_inst (t := 2) hX hY ht18 (by decide) (fun q => by cases q) (fun _ => hn18) (jx_nm2 hY) rfl q587 dX0_number_18 21 rfl (fun v18 e18 => ?_)
    have h := h v18 e18
    refine jj_if_eq hX dX0_number_21 34 24 (by decide) rfl (fun c21 => ?_) (fun c21 => ?_)
    · have h := h.1 c21
      refine jj_aload_n hX dX0_number_34 0 rfl 35 rfl ?_
      obtain ⟨ht35, hn35, h⟩ := h
      refine jx_inst (t := 0) hX hY ht35 (by decide) (fun _ => hn35) (fun q => by cases q) (jx_nm0 hY) rfl q588 dX0_number_35 38 rfl (fun v35 e35 => ?_)
      have h := h v35 e35
      refine jj_if_eq hX dX0_number_38 53 41 (by decide) rfl (fun c38 => ?_) (fun c38 => ?_)
      · have h := h.1 c38
        refine jj_aload_n hX dX0_number_53 0 rfl 54 rfl ?_
        obtain ⟨n54, k54, h⟩ := h
        refine jx_acast (t := 3) hX hY k54 (jx_nm3 hY) q589 dX0_number_54 57 rfl ?_
        refine jj_iload_n hX dX0_number_57 1 rfl 58 rfl ?_
        by_cases hi58_1 : vp_in x1 n54
        · have h := h.1 hi58_1
          refine jx_lald hX hY.1 k54 _ rfl hi58_1 dX0_number_58 59 rfl ?_
          exact jt_ret (jj_retl (post := (fun (r : Int64) (w : XK × XS) => Post r w.1 w.2)) (u := (K, u)) hX dX0_number_59 (Nat.zero_le _) (Nat.zero_le _) (jx_hBA XLe.rf) h)
        · obtain ⟨hn58, hc58, hs58, h⟩ := h.2 hi58_1
          refine jv_lald hX hY k54 hi58_1 hn58 (Nat.le_of_ble_eq_true rfl) (Nat.le_of_ble_eq_true rfl) (by simp [jx_rfc, jx_c1, jx_c2, jx_c3, jx_c4]) (by simpa using hc58) (by simpa using hs58) dX0_number_58 (fun q58 => jt_cs (k2 := 3) (n2 := 222) (by simp) (by simp) ?_)
          have h := h q58
          exact jt_out (e := 100) hX hE hc58 hs58 XLe.rf h
      · have h := h.2 c38
        refine jj_aload_n hX dX0_number_41 0 rfl 42 rfl ?_
        obtain ⟨n42, k42, h⟩ := h
        refine jx_acast (t := 0) hX hY k42 (jx_nm0 hY) q588 dX0_number_42 45 rfl ?_
        refine jj_astore_n (lv2 := [(1, .int x1), (2, .ref x0)]) hX dX0_number_45 (Nat.le_of_ble_eq_true rfl) [2, 0] rfl 46 rfl ?_
        refine jj_aload_n hX dX0_number_46 1 rfl 47 rfl ?_
        refine jj_iload_n hX dX0_number_47 0 rfl 48 rfl ?_
        by_cases hi48_1 : vp_in x1 n42
        · have h := h.1 hi48_1
          refine jx_iald hX hY.1 k42 _ rfl hi48_1 dX0_number_48 49 rfl ?_
          refine jj_i2l hX dX0_number_49 50 rfl ?_
          refine jj_goto hX dX0_number_50 59 (by decide) ?_
          exact jt_ret (jj_retl (post := (fun (r : Int64) (w : XK × XS) => Post r w.1 w.2)) (u := (K, u)) hX dX0_number_59 (Nat.zero_le _) (Nat.zero_le _) (jx_hBA XLe.rf) h)
        · obtain ⟨hn48, hc48, hs48, h⟩ := h.2 hi48_1
          refine jv_iald hX hY k42 hi48_1 hn48 (Nat.le_of_ble_eq_true rfl) (Nat.le_of_ble_eq_true rfl) (by simp [jx_rfc, jx_c1, jx_c2, jx_c3, jx_c4]) (by simpa using hc48) (by simpa using hs48) dX0_number_48 (fun q48 => jt_cs (k2 := 3) (n2 := 222) (by simp) (by simp) ?_)
          have h := h q48
          exact jt_out (e := 100) hX hE hc48 hs48 XLe.rf h
    · have h := h.2 c21
      refine jj_aload_n hX dX0_number_24 0 rfl 25 rfl ?_
      obtain ⟨n25, k25, h⟩ := h
      refine jx_acast (t := 2) hX hY k25 (jx_nm2 hY) q587 dX0_number_25 28 rfl ?_
      refine jj_astore_n (lv2 := [(1, .int x1), (2, .ref x0)]) hX dX0_number_28 (Nat.le_of_ble_eq_true rfl) [2, 0] rfl 29 rfl ?_
      refine jj_aload_n hX dX0_number_29 1 rfl 30 rfl ?_
      refine jj_iload_n hX dX0_number_30 0 rfl 31 rfl ?_
      by_cases hi31_1 : vp_in x1 n25
      · have h := h.1 hi31_1
        refine jx_sald hX hY.1 k25 _ rfl hi31_1 dX0_number_31 32 rfl ?_
        refine jj_i2l hX dX0_number_32 33 rfl ?_
        exact jt_ret (jj_retl (post := (fun (r : Int64) (w : XK × XS) => Post r w.1 w.2)) (u := (K, u)) hX dX0_number_33 (Nat.zero_le _) (Nat.zero_le _) (jx_hBA XLe.rf) h)
      · obtain ⟨hn31, hc31, hs31, h⟩ := h.2 hi31_1
        refine jv_sald hX hY k25 hi31_1 hn31 (Nat.le_of_ble_eq_true rfl) (Nat.le_of_ble_eq_true rfl) (by simp [jx_rfc, jx_c1, jx_c2, jx_c3, jx_c4]) (by simpa using hc31) (by simpa using hs31) dX0_number_31 (fun q31 => jt_cs (k2 := 3) (n2 := 222) (by simp) (by simp) ?_)
        have h := h q31
        exact jt_out (e := 100) hX hE hc31 hs31 XLe.rf h
  · have h := h.2 c4
    refine jj_aload_n hX dX0_number_7 0 rfl 8 rfl ?_
    obtain ⟨n8, k8, h⟩ := h
    refine jx_acast (t := 1) hX hY k8 (jx_nm1 hY) q586 dX0_number_8 11 rfl ?_
    refine jj_astore_n (lv2 := [(1, .int x1), (2, .ref x0)]) hX dX0_number_11 (Nat.le_of_ble_eq_true rfl) [2, 0] rfl 12 rfl ?_
    refine jj_aload_n hX dX0_number_12 1 rfl 13 rfl ?_
    refine jj_iload_n hX dX0_number_13 0 rfl 14 rfl ?_
    by_cases hi14_1 : vp_in x1 n8
    · have h := h.1 hi14_1
      refine jx_bald hX hY.1 k8 _ rfl hi14_1 dX0_number_14 15 rfl ?_
      refine jj_i2l hX dX0_number_15 16 rfl ?_
      exact jt_ret (jj_retl (post := (fun (r : Int64) (w : XK × XS) => Post r w.1 w.2)) (u := (K, u)) hX dX0_number_16 (Nat.zero_le _) (Nat.zero_le _) (jx_hBA XLe.rf) h)
    · obtain ⟨hn14, hc14, hs14, h⟩ := h.2 hi14_1
      refine jv_bald hX hY k8 hi14_1 hn14 (Nat.le_of_ble_eq_true rfl) (Nat.le_of_ble_eq_true rfl) (by simp [jx_rfc, jx_c1, jx_c2, jx_c3, jx_c4]) (by simpa using hc14) (by simpa using hs14) dX0_number_14 (fun q14 => jt_cs (k2 := 3) (n2 := 222) (by simp) (by simp) ?_)
      have h := h q14
      exact jt_out (e := 100) hX hE hc14 hs14 XLe.rf h
theorem hd_xw0_number : yX0_number.cls ≠ "java/lang/invoke/MethodHandle" ∧ yX0_number.cls ≠ "java/lang/invoke/VarHandle" ∧ (parseMethodDescriptor yX0_number.desc).map (fun d => d.parameters.length) = some 2 := by decide +kernel
theorem kxw0_number {X : JC} {A : Nat → Prop} {Q : State → Prop} {nL k n pc : Nat} {lv : List (Nat × Value)} {st : List Value} {own : String} {cc : ByteArray} {ret : Option FieldType} {F LL mc ms ix mc2 ms2 : Nat} {D : va_G} {dA aK aV : Nat → Nat} {K : XK} {u : XS} {x0 : Nat} {x1 : Int32} {Post : Int64 → XK → XS → Prop} {PX : Nat → XK → XS → Prop} (hX : JX X own cc nL ret F LL mc ms) (hY : JY X D dA aK aV A) (hlk : (Cond.methodLink own ix yX0_number) ∈ lw_all) (hF : 8 + 1 ≤ F) (hL : 8 + (3 + 11) + 10248 ≤ LL) (hk : k + mc2 ≤ mc) (hk2 : n + ms2 ≤ ms) (hw : (st.map fun v => v.category).sum ≤ 8) (d : decode cc pc = .ok (.invokestatic ix, 3)) (q : Nat) (hq : pc + 3 = q) (h : xw0_number x0 x1 K u mc2 ms2 Post PX) (kx : ∀ (q9 : Nat) (K2 : XK) (u2 : XS), XLe K K2 → PX q9 K2 u2 → JT X A Q nL (XP D dA A K2 u2) (k + mc2) (n + ms2) pc lv (jx_en 100) q9) (kk : ∀ (r : Int64) (K2 : XK) (u2 : XS), XLe K K2 → Post r K2 u2 → JJ X A Q nL (XP D dA A K2 u2) (k + mc2) (n + ms2) q lv (.long r :: st)) : JJ X A Q nL (XP D dA A K u) k n pc lv (.int x1 :: .ref x0 :: st) :=
  jx_callTSl (na := 2) (As := [.ref x0, .int x1]) hX hY (fun sz => mxw0_number (jj_l X) hY.2.2.2.2 D dA aK aV x0 x1 K u mc2 ms2 Post PX h sz) hlk q595 q120 q596 hd_xw0_number rfl rfl hw hF hL hk hk2 d q hq kx kk
/-- RaisedPress.none(LRaisedPress$Refused;)I -/
def xw0_none (x0 : Nat) (x1 : Nat) (K : XK) (u : XS) (Post : Int32 → XS → Prop) : Prop :=
  K x1 = (1, 3) ∧
  K x0 = (1, 0) ∧
  ∀ u5 : XS, u5 = xsi u x0 7 (xi u x1 6) →
  Post (-1 : Int32) u5
set_option maxHeartbeats 4000000 in
set_option maxRecDepth 100000 in
theorem mxw0_none (l : Launch) (hfl : l.stackTraces = false) (D : va_G) (dA aK aV : Nat → Nat) (x0 : Nat) (x1 : Nat) (K : XK) (u : XS) (Post : Int32 → XS → Prop) (h : xw0_none x0 x1 K u Post) (sz : Nat) : Met l yX0_none (ws_ yX0_none cX0_none 2 (Option.some Jvm.ClassFile.FieldType.int)) (jx_rm 0 0 0 0) (jx_Pc D dA aK aV K u sz [.ref x0, .ref x1]) (va_Qi (fun (r : Int32) (w : XS) => Post r w) (jx_B D dA K) (AX K sz)) 0 0 (AX K sz) := by
  refine jx_start hfl [.ref x0, .ref x1] [(0, .ref x0), (1, .ref x1)] (by decide) (Nat.le_of_ble_eq_true rfl) rfl (fun X hX hY hin => ?_)
  unfold xw0_none at h
  refine jj_aload_n hX dX0_none_0 0 rfl 1 rfl ?_
  refine jj_aload_n hX dX0_none_1 1 rfl 2 rfl ?_
  obtain ⟨k2, h⟩ := h
  refine xgn3_6 hX hY k2 dX0_none_2 nq253 5 rfl ?_
  obtain ⟨k5, h⟩ := h
  refine xp0_7 hX hY k5 dX0_none_5 q418 8 rfl (fun u5 e5 => ?_)
  have h := h u5 e5
  refine jj_iconst hX dX0_none_8 ci_m1 9 rfl ?_
  exact jj_reti (post := (fun (r : Int32) (w : XS) => Post r w)) (u := u5) hX dX0_none_9 (Nat.le_refl 0) (Nat.le_refl 0) jx_hB h
theorem hd_xw0_none : yX0_none.cls ≠ "java/lang/invoke/MethodHandle" ∧ yX0_none.cls ≠ "java/lang/invoke/VarHandle" ∧ (parseMethodDescriptor yX0_none.desc).map (fun d => d.parameters.length) = some 1 := by decide +kernel
theorem kxw0_none {X : JC} {A : Nat → Prop} {Q : State → Prop} {nL k n pc : Nat} {lv : List (Nat × Value)} {st : List Value} {own : String} {cc : ByteArray} {ret : Option FieldType} {F LL mc ms ix : Nat} {D : va_G} {dA aK aV : Nat → Nat} {K : XK} {u : XS} {x0 : Nat} {x1 : Nat} {Post : Int32 → XS → Prop} (hX : JX X own cc nL ret F LL mc ms) (hY : JY X D dA aK aV A) (h1a : K x0 = (1, 0)) (hlk : (Cond.methodLink own ix yX0_none) ∈ lw_all) (hF : 0 + 1 ≤ F) (hL : 8 + (2 + 11) + 0 ≤ LL) (hk : k ≤ mc) (hk2 : n ≤ ms) (hw : (st.map fun v => v.category).sum ≤ 8) (d : decode cc pc = .ok (.invokevirtual ix, 3)) (q : Nat) (hq : pc + 3 = q) (h : xw0_none x0 x1 K u  Post) (kk : ∀ (r : Int32) (u2 : XS), Post r u2 → JJ X A Q nL (XP D dA A K u2) k n q lv (.int r :: st)) : JJ X A Q nL (XP D dA A K u) k n pc lv (.ref x1 :: .ref x0 :: st) :=
  jx_callVi (na := 1) (As := [.ref x1]) hX hY jf0 h1a (fun sz => mxw0_none (jj_l X) hY.2.2.2.2 D dA aK aV x0 x1 K u  Post h sz) hlk q600 qs4 q120 q601 ⟨rfl, hd_xw0_none⟩ rfl rfl hw hF hL hk hk2 d q hq kk
theorem knxw0_none {X : JC} {A : Nat → Prop} {Q : State → Prop} {nL k n pc : Nat} {lv : List (Nat × Value)} {st : List Value} {own : String} {cc : ByteArray} {ret : Option FieldType} {F LL mc ms ix : Nat} {D : va_G} {dA aK aV : Nat → Nat} {K : XK} {u : XS} {x0 : Nat} {x1 : Nat} {host : String} {Post : Int32 → XS → Prop} (hX : JX X own cc nL ret F LL mc ms) (hY : JY X D dA aK aV A) (h1a : K x0 = (1, 0)) (hlk : (Cond.methodLinkNest own ix yX0_none host) ∈ jx_nest) (hF : 0 + 1 ≤ F) (hL : 8 + (2 + 11) + 0 ≤ LL) (hk : k ≤ mc) (hk2 : n ≤ ms) (hw : (st.map fun v => v.category).sum ≤ 8) (d : decode cc pc = .ok (.invokevirtual ix, 3)) (q : Nat) (hq : pc + 3 = q) (h : xw0_none x0 x1 K u  Post) (kk : ∀ (r : Int32) (u2 : XS), Post r u2 → JJ X A Q nL (XP D dA A K u2) k n q lv (.int r :: st)) : JJ X A Q nL (XP D dA A K u) k n pc lv (.ref x1 :: .ref x0 :: st) :=
  jx_callNi (na := 1) (As := [.ref x1]) hX hY jf0 h1a (fun sz => mxw0_none (jj_l X) hY.2.2.2.2 D dA aK aV x0 x1 K u  Post h sz) hlk q600 qs4 q120 q601 hd_xw0_none rfl rfl hw hF hL hk hk2 d q hq kk
/-- RaisedPress.read(II)J -/
def xw0_read (x0 : Nat) (x1 : Int32) (x2 : Int32) (K : XK) (u : XS) (mc ms : Nat) (Post : Int64 → XK → XS → Prop) : Prop :=
  K x0 = (1, 0) ∧
  ∀ u2 : XS, u2 = xsi u x0 7 (0 : Int32) →
  ∃ m7 w7, m7 ≤ mc ∧ w7 ≤ ms ∧ xw0_on x0 x1 K u2 m7 w7 (fun r7 K7 u7 =>
    ∃ m11 w11, (m7 + m11) ≤ mc ∧ (w7 + w11) ≤ ms ∧ xw0_number r7 x2 K7 u7 m11 w11 (fun r11 K11 u11 =>
      Post r11 K11 u11) (fun q11 K11 u11 =>
      ∀ u18 : XS, u18 = xsi u11 x0 7 (3 : Int32) →
      Post (-1 : Int64) K11 u18)) (fun q7 K7 u7 =>
    xw0_none x0 q7 K7 u7 (fun r28 u28 =>
      Post r28.toInt64 K7 u28))
set_option maxHeartbeats 4000000 in
set_option maxRecDepth 100000 in
theorem mxw0_read (l : Launch) (hfl : l.stackTraces = false) (D : va_G) (dA aK aV : Nat → Nat) (x0 : Nat) (x1 : Int32) (x2 : Int32) (K : XK) (u : XS) (mc ms : Nat) (Post : Int64 → XK → XS → Prop) (h : xw0_read x0 x1 x2 K u mc ms Post) (sz : Nat) : Met l yX0_read (wsW_ yX0_read cX0_read 4 (Option.some Jvm.ClassFile.FieldType.long) [(5, 14, 15, 163), (5, 14, 25, 48)]) (jx_rm 9 10270 mc ms) (jx_Pc D dA aK aV K u sz [.ref x0, .int x1, .int x2]) (va_Ql (fun (r : Int64) (w : XK × XS) => Post r w.1 w.2) (jx_BA D dA K sz) (AX K sz)) mc ms (AX K sz) := by
  refine jx_startW hfl [.ref x0, .int x1, .int x2] [(0, .ref x0), (1, .int x1), (2, .int x2)] (by decide) (Nat.le_of_ble_eq_true rfl) rfl (fun X hX hY hE => ?_)
  unfold xw0_read at h
  refine jj_aload_n hX dX0_read_0 0 rfl 1 rfl ?_
  refine jj_iconst hX dX0_read_1 ci_0 2 rfl ?_
  obtain ⟨k2, h⟩ := h
  refine xp0_7 hX hY k2 dX0_read_2 q418 5 rfl (fun u2 e2 => ?_)
  have h := h u2 e2
  refine jj_aload_n hX dX0_read_5 0 rfl 6 rfl ?_
  refine jj_iload_n hX dX0_read_6 1 rfl 7 rfl ?_
  obtain ⟨m7, w7, hc7, hs7, h⟩ := h
  refine kxw0_on hX hY k2 q579 (Nat.le_of_ble_eq_true rfl) (Nat.le_of_ble_eq_true rfl) (by simpa using hc7) (by simpa using hs7) (Nat.le_of_ble_eq_true rfl) dX0_read_7 10 rfl h (fun q7 K7 u7 hle7 h => jt_cs (k2 := m7) (n2 := w7) (by simp) (by simp) ?_) (fun r7 K7 u7 hle7 h => jj_cs (k2 := m7) (n2 := w7) (by simp) (by simp) ?_)
  · have k7 := hle7.at k2 (by simp)
    have hl7 := XLe.rf.tr hle7
    refine jt_catch2 (nm := "RaisedPress$Refused") (nm1 := "java/lang/ArrayIndexOutOfBoundsException") hX hY.2.1 hE (by decide) q560 (by decide) rfl (by decide) q239 nq241 ?_
    refine jj_astore_n (lv2 := [(0, .ref x0), (3, .ref q7)]) hX dX0_read_25 (Nat.le_of_ble_eq_true rfl) [1, 0] rfl 26 rfl ?_
    refine jj_aload_n hX dX0_read_26 0 rfl 27 rfl ?_
    refine jj_aload_n hX dX0_read_27 1 rfl 28 rfl ?_
    refine kxw0_none hX hY k7 q598 (Nat.le_of_ble_eq_true rfl) (Nat.le_of_ble_eq_true rfl) hc7 hs7 (Nat.le_of_ble_eq_true rfl) dX0_read_28 31 rfl h (fun r28 u28 h => ?_)
    refine jj_i2l hX dX0_read_31 32 rfl ?_
    exact jj_retl (post := (fun (r : Int64) (w : XK × XS) => Post r w.1 w.2)) (u := (K7, u28)) hX dX0_read_32 hc7 hs7 (jx_hBA hl7) h
  · have k7 := hle7.at k2 (by simp)
    have hl7 := XLe.rf.tr hle7
    refine jj_iload_n hX dX0_read_10 2 rfl 11 rfl ?_
    obtain ⟨m11, w11, hc11, hs11, h⟩ := h
    refine kxw0_number hX hY q594 (Nat.le_of_ble_eq_true rfl) (Nat.le_of_ble_eq_true rfl) hc11 hs11 (Nat.le_of_ble_eq_true rfl) dX0_read_11 14 rfl h (fun q11 K11 u11 hle11 h => jt_cs (k2 := (m7 + m11)) (n2 := (w7 + w11)) (by simp) (by simp) ?_) (fun r11 K11 u11 hle11 h => jj_cs (k2 := (m7 + m11)) (n2 := (w7 + w11)) (by simp) (by simp) ?_)
    · have k11 := hle11.at k7 (by simp)
      have hl11 := hl7.tr hle11
      refine jt_catch0 (nm := "java/lang/ArrayIndexOutOfBoundsException") hX hY.2.1 hE rfl (by decide) q560 nq575 ?_
      refine jj_astore_n (lv2 := [(0, .ref x0), (3, .ref q11)]) hX dX0_read_15 (Nat.le_of_ble_eq_true rfl) [1, 0] rfl 16 rfl ?_
      refine jj_aload_n hX dX0_read_16 0 rfl 17 rfl ?_
      refine jj_iconst hX dX0_read_17 ci_3 18 rfl ?_
      refine xp0_7 hX hY k11 dX0_read_18 q418 21 rfl (fun u18 e18 => ?_)
      have h := h u18 e18
      refine jj_ldc2 (v := -1) hX dX0_read_21 q597 24 rfl ?_
      exact jj_retl (post := (fun (r : Int64) (w : XK × XS) => Post r w.1 w.2)) (u := (K11, u18)) hX dX0_read_24 hc11 hs11 (jx_hBA hl11) h
    · have k11 := hle11.at k7 (by simp)
      have hl11 := hl7.tr hle11
      exact jj_retl (post := (fun (r : Int64) (w : XK × XS) => Post r w.1 w.2)) (u := (K11, u11)) hX dX0_read_14 hc11 hs11 (jx_hBA hl11) h
theorem hd_xw0_read : yX0_read.cls ≠ "java/lang/invoke/MethodHandle" ∧ yX0_read.cls ≠ "java/lang/invoke/VarHandle" ∧ (parseMethodDescriptor yX0_read.desc).map (fun d => d.parameters.length) = some 2 := by decide +kernel
theorem kxw0_read {X : JC} {A : Nat → Prop} {Q : State → Prop} {nL k n pc : Nat} {lv : List (Nat × Value)} {st : List Value} {own : String} {cc : ByteArray} {ret : Option FieldType} {F LL mc ms ix mc2 ms2 : Nat} {D : va_G} {dA aK aV : Nat → Nat} {K : XK} {u : XS} {x0 : Nat} {x1 : Int32} {x2 : Int32} {Post : Int64 → XK → XS → Prop} (hX : JX X own cc nL ret F LL mc ms) (hY : JY X D dA aK aV A) (h1a : K x0 = (1, 0)) (hlk : (Cond.methodLink own ix yX0_read) ∈ lw_all) (hF : 9 + 1 ≤ F) (hL : 8 + (4 + 11) + 10270 ≤ LL) (hk : k + mc2 ≤ mc) (hk2 : n + ms2 ≤ ms) (hw : (st.map fun v => v.category).sum ≤ 8) (d : decode cc pc = .ok (.invokevirtual ix, 3)) (q : Nat) (hq : pc + 3 = q) (h : xw0_read x0 x1 x2 K u mc2 ms2 Post) (kk : ∀ (r : Int64) (K2 : XK) (u2 : XS), XLe K K2 → Post r K2 u2 → JJ X A Q nL (XP D dA A K2 u2) (k + mc2) (n + ms2) q lv (.long r :: st)) : JJ X A Q nL (XP D dA A K u) k n pc lv (.int x2 :: .int x1 :: .ref x0 :: st) :=
  jx_callWVl (na := 2) (As := [.int x1, .int x2]) hX hY jf0 h1a (fun sz => mxw0_read (jj_l X) hY.2.2.2.2 D dA aK aV x0 x1 x2 K u mc2 ms2 Post h sz) hlk q591 q592 q120 q593 ⟨rfl, hd_xw0_read⟩ rfl rfl hw hF hL hk hk2 d q hq kk
/-- RaisedPress.sortOf(Ljava/lang/Object;)I -/
def xw0_sortOf (x0 : Nat) (K : XK) (u : XS) (Post : Int32 → XS → Prop) : Prop :=
  xTray K x0 ∧ ∀ v1 : Int32, v1 = jx_is K x0 1 →
  (v1 = 0 →
    xTray K x0 ∧ ((K x0).1 ≠ 3) ∧ ∀ v12 : Int32, v12 = jx_is K x0 2 →
    (v12 = 0 →
      xTray K x0 ∧ ((K x0).1 ≠ 3 ∧ (K x0).1 ≠ 4) ∧ ∀ v23 : Int32, v23 = jx_is K x0 0 →
      (v23 = 0 →
        Post (3 : Int32) u) ∧
      (¬ v23 = 0 →
        Post (2 : Int32) u)) ∧
    (¬ v12 = 0 →
      Post (1 : Int32) u)) ∧
  (¬ v1 = 0 →
    Post (0 : Int32) u)
set_option maxHeartbeats 4000000 in
set_option maxRecDepth 100000 in
theorem mxw0_sortOf (l : Launch) (hfl : l.stackTraces = false) (D : va_G) (dA aK aV : Nat → Nat) (x0 : Nat) (K : XK) (u : XS) (Post : Int32 → XS → Prop) (h : xw0_sortOf x0 K u Post) (sz : Nat) : Met l yX0_sortOf (ws_ yX0_sortOf cX0_sortOf 1 (Option.some Jvm.ClassFile.FieldType.int)) (jx_rm 0 0 0 0) (jx_Pc D dA aK aV K u sz [.ref x0]) (va_Qi (fun (r : Int32) (w : XS) => Post r w) (jx_B D dA K) (AX K sz)) 0 0 (AX K sz) := by
  refine jx_start hfl [.ref x0] [(0, .ref x0)] (by decide) (Nat.le_of_ble_eq_true rfl) rfl (fun X hX hY hin => ?_)
  unfold xw0_sortOf at h
  refine jj_aload_n hX dX0_sortOf_0 0 rfl 1 rfl ?_
  obtain ⟨ht1, h⟩ := h
  refine jx_inst (t := 1) hX hY ht1 (by decide) (fun q => by cases q) (fun q => by cases q) (jx_nm1 hY) rfl q586 dX0_sortOf_1 4 rfl (fun v1 e1 => ?_)
  have h := h v1 e1
  refine jj_if_eq hX dX0_sortOf_4 11 7 (by decide) rfl (fun c4 => ?_) (fun c4 => ?_)
  · have h := h.1 c4
    refine jj_aload_n hX dX0_sortOf_11 0 rfl 12 rfl ?_
    obtain ⟨ht12, hn12, h⟩ := h
    refine jx_inst (t := 2) hX hY ht12 (by decide) (fun q => by cases q) (fun _ => hn12) (jx_nm2 hY) rfl q587 dX0_sortOf_12 15 rfl (fun v12 e12 => ?_)
    have h := h v12 e12
    refine jj_if_eq hX dX0_sortOf_15 22 18 (by decide) rfl (fun c15 => ?_) (fun c15 => ?_)
    · have h := h.1 c15
      refine jj_aload_n hX dX0_sortOf_22 0 rfl 23 rfl ?_
      obtain ⟨ht23, hn23, h⟩ := h
      refine jx_inst (t := 0) hX hY ht23 (by decide) (fun _ => hn23) (fun q => by cases q) (jx_nm0 hY) rfl q588 dX0_sortOf_23 26 rfl (fun v23 e23 => ?_)
      have h := h v23 e23
      refine jj_if_eq hX dX0_sortOf_26 33 29 (by decide) rfl (fun c26 => ?_) (fun c26 => ?_)
      · have h := h.1 c26
        refine jj_iconst hX dX0_sortOf_33 ci_3 34 rfl ?_
        exact jj_reti (post := (fun (r : Int32) (w : XS) => Post r w)) (u := u) hX dX0_sortOf_34 (Nat.le_refl 0) (Nat.le_refl 0) jx_hB h
      · have h := h.2 c26
        refine jj_iconst hX dX0_sortOf_29 ci_2 30 rfl ?_
        refine jj_goto hX dX0_sortOf_30 34 (by decide) ?_
        exact jj_reti (post := (fun (r : Int32) (w : XS) => Post r w)) (u := u) hX dX0_sortOf_34 (Nat.le_refl 0) (Nat.le_refl 0) jx_hB h
    · have h := h.2 c15
      refine jj_iconst hX dX0_sortOf_18 ci_1 19 rfl ?_
      refine jj_goto hX dX0_sortOf_19 34 (by decide) ?_
      exact jj_reti (post := (fun (r : Int32) (w : XS) => Post r w)) (u := u) hX dX0_sortOf_34 (Nat.le_refl 0) (Nat.le_refl 0) jx_hB h
  · have h := h.2 c4
    refine jj_iconst hX dX0_sortOf_7 ci_0 8 rfl ?_
    refine jj_goto hX dX0_sortOf_8 34 (by decide) ?_
    exact jj_reti (post := (fun (r : Int32) (w : XS) => Post r w)) (u := u) hX dX0_sortOf_34 (Nat.le_refl 0) (Nat.le_refl 0) jx_hB h
theorem hd_xw0_sortOf : yX0_sortOf.cls ≠ "java/lang/invoke/MethodHandle" ∧ yX0_sortOf.cls ≠ "java/lang/invoke/VarHandle" ∧ (parseMethodDescriptor yX0_sortOf.desc).map (fun d => d.parameters.length) = some 1 := by decide +kernel
theorem kxw0_sortOf {X : JC} {A : Nat → Prop} {Q : State → Prop} {nL k n pc : Nat} {lv : List (Nat × Value)} {st : List Value} {own : String} {cc : ByteArray} {ret : Option FieldType} {F LL mc ms ix : Nat} {D : va_G} {dA aK aV : Nat → Nat} {K : XK} {u : XS} {x0 : Nat} {Post : Int32 → XS → Prop} (hX : JX X own cc nL ret F LL mc ms) (hY : JY X D dA aK aV A) (hlk : (Cond.methodLink own ix yX0_sortOf) ∈ lw_all) (hF : 0 + 1 ≤ F) (hL : 8 + (1 + 11) + 0 ≤ LL) (hk : k ≤ mc) (hk2 : n ≤ ms) (hw : (st.map fun v => v.category).sum ≤ 8) (d : decode cc pc = .ok (.invokestatic ix, 3)) (q : Nat) (hq : pc + 3 = q) (h : xw0_sortOf x0 K u  Post) (kk : ∀ (r : Int32) (u2 : XS), Post r u2 → JJ X A Q nL (XP D dA A K u2) k n q lv (.int r :: st)) : JJ X A Q nL (XP D dA A K u) k n pc lv (.ref x0 :: st) :=
  jx_callSi (na := 1) (As := [.ref x0]) hX hY (fun sz => mxw0_sortOf (jj_l X) hY.2.2.2.2 D dA aK aV x0 K u  Post h sz) hlk q608 q120 q609 hd_xw0_sortOf rfl rfl hw hF hL hk hk2 d q hq kk
theorem knxw0_sortOf {X : JC} {A : Nat → Prop} {Q : State → Prop} {nL k n pc : Nat} {lv : List (Nat × Value)} {st : List Value} {own : String} {cc : ByteArray} {ret : Option FieldType} {F LL mc ms ix : Nat} {D : va_G} {dA aK aV : Nat → Nat} {K : XK} {u : XS} {x0 : Nat} {host : String} {Post : Int32 → XS → Prop} (hX : JX X own cc nL ret F LL mc ms) (hY : JY X D dA aK aV A) (hlk : (Cond.methodLinkNest own ix yX0_sortOf host) ∈ jx_nest) (hF : 0 + 1 ≤ F) (hL : 8 + (1 + 11) + 0 ≤ LL) (hk : k ≤ mc) (hk2 : n ≤ ms) (hw : (st.map fun v => v.category).sum ≤ 8) (d : decode cc pc = .ok (.invokestatic ix, 3)) (q : Nat) (hq : pc + 3 = q) (h : xw0_sortOf x0 K u  Post) (kk : ∀ (r : Int32) (u2 : XS), Post r u2 → JJ X A Q nL (XP D dA A K u2) k n q lv (.int r :: st)) : JJ X A Q nL (XP D dA A K u) k n pc lv (.ref x0 :: st) :=
  jx_callSNi (na := 1) (As := [.ref x0]) hX hY (fun sz => mxw0_sortOf (jj_l X) hY.2.2.2.2 D dA aK aV x0 K u  Post h sz) hlk q608 q120 q609 hd_xw0_sortOf rfl rfl hw hF hL hk hk2 d q hq kk
def xw0_pour_B80 (Post : Int32 → XK → XS → Prop) (mc ms : Nat) (x0 : Nat) (x2 : Int32) (x4 : Int32) (x5 : Int32) (x6 : Nat) (x7 : Nat) (s0 : Int32) (s1 : Nat) (K : XK) (u : XS) (c s : Nat) : Prop :=
  K s1 = (1, 0) ∧
  ∃ m82 w82, (c + m82) ≤ mc ∧ (s + w82) ≤ ms ∧ xw0_want s1 s0 (8 : Int32) K u m82 w82 (fun K82 u82 =>
    ∃ t94 n94 n94_1, t94 < 4 ∧ K82 x6 = (t94 + 2, n94) ∧ K82 x7 = (t94 + 2, n94_1) ∧ n94 < 2147483648 ∧ n94_1 < 2147483648 ∧ ¬ x2 < 0 ∧ ¬ x4 < 0 ∧ ¬ x5 < 0 ∧
    ((x2.toNatClampNeg + x5.toNatClampNeg ≤ n94 ∧ x4.toNatClampNeg + x5.toNatClampNeg ≤ n94_1) → ∀ u94 : XS, u94 = jx_cpg t94 u82 x6 x2.toNatClampNeg x7 x4.toNatClampNeg x5.toNatClampNeg →
      Post (1 : Int32) K82 u94) ∧
    (¬ (x2.toNatClampNeg + x5.toNatClampNeg ≤ n94 ∧ x4.toNatClampNeg + x5.toNatClampNeg ≤ n94_1) → ((c + m82) + 3) ≤ mc ∧ ((s + w82) + 410) ≤ ms ∧ ∀ q94 : Nat,
      K82 x0 = (1, 0) ∧
      ∃ b107, (xr u82 x0 6) = some b107 ∧
      K82 b107 = (1, 3) ∧
      xw3_by b107 (3 : Int32) K82 u82 (fun r107 u107 =>
        K82 r107 = (1, 3) ∧
        xw0_no x0 r107 K82 u107 (fun r118 u118 =>
          Post r118 K82 u118)))) (fun q82 K82 u82 =>
    K82 x0 = (1, 0) ∧
    xw0_no x0 q82 K82 u82 (fun r118 u118 =>
      Post r118 K82 u118))
def xw0_pour_B43 (Post : Int32 → XK → XS → Prop) (mc ms : Nat) (x0 : Nat) (x1 : Int32) (x2 : Int32) (x3 : Int32) (x4 : Int32) (x5 : Int32) (s0 : Int32) (s1 : Nat) (K : XK) (u : XS) (c s : Nat) : Prop :=
  K s1 = (1, 0) ∧
  ∃ m44 w44, (c + m44) ≤ mc ∧ (s + w44) ≤ ms ∧ xw0_want s1 s0 (1 : Int32) K u m44 w44 (fun K44 u44 =>
    K44 x0 = (1, 0) ∧
    ∃ m49 w49, ((c + m44) + m49) ≤ mc ∧ ((s + w44) + w49) ≤ ms ∧ xw0_on x0 x1 K44 u44 m49 w49 (fun r49 K49 u49 =>
      ∃ m56 w56, (((c + m44) + m49) + m56) ≤ mc ∧ (((s + w44) + w49) + w56) ≤ ms ∧ xw0_on x0 x3 K49 u49 m56 w56 (fun r56 K56 u56 =>
        xw0_sortOf r49 K56 u56 (fun r64 u64 =>
          xw0_sortOf r56 K56 u64 (fun r69 u69 =>
            (¬ r64 = r69 →
              xw0_pour_B80 Post mc ms x0 x2 x4 x5 r49 r56 (0 : Int32) x0 K56 u69 (((c + m44) + m49) + m56) (((s + w44) + w49) + w56)) ∧
            (r64 = r69 →
              xw0_pour_B80 Post mc ms x0 x2 x4 x5 r49 r56 (1 : Int32) x0 K56 u69 (((c + m44) + m49) + m56) (((s + w44) + w49) + w56))))) (fun q56 K56 u56 =>
        xw0_no x0 q56 K56 u56 (fun r118 u118 =>
          Post r118 K56 u118))) (fun q49 K49 u49 =>
      xw0_no x0 q49 K49 u49 (fun r118 u118 =>
        Post r118 K49 u118))) (fun q44 K44 u44 =>
    K44 x0 = (1, 0) ∧
    xw0_no x0 q44 K44 u44 (fun r118 u118 =>
      Post r118 K44 u118))
def xw0_pour_B42 (Post : Int32 → XK → XS → Prop) (mc ms : Nat) (x0 : Nat) (x1 : Int32) (x2 : Int32) (x3 : Int32) (x4 : Int32) (x5 : Int32) (s0 : Nat) (K : XK) (u : XS) (c s : Nat) : Prop :=
  xw0_pour_B43 Post mc ms x0 x1 x2 x3 x4 x5 (0 : Int32) s0 K u c s
/-- RaisedPress.pour(IIIII)Z -/
def xw0_pour (x0 : Nat) (x1 : Int32) (x2 : Int32) (x3 : Int32) (x4 : Int32) (x5 : Int32) (K : XK) (u : XS) (mc ms : Nat) (Post : Int32 → XK → XS → Prop) : Prop :=
  K x0 = (1, 0) ∧
  ∀ u2 : XS, u2 = xsi u x0 7 (0 : Int32) →
  (x1 < 0 →
    xw0_pour_B42 Post mc ms x0 x1 x2 x3 x4 x5 x0 K u2 0 0) ∧
  (¬ x1 < 0 →
    ((4 : Int32) ≤ x1 →
      xw0_pour_B42 Post mc ms x0 x1 x2 x3 x4 x5 x0 K u2 0 0) ∧
    (¬ (4 : Int32) ≤ x1 →
      (x3 < 0 →
        xw0_pour_B42 Post mc ms x0 x1 x2 x3 x4 x5 x0 K u2 0 0) ∧
      (¬ x3 < 0 →
        ((4 : Int32) ≤ x3 →
          xw0_pour_B42 Post mc ms x0 x1 x2 x3 x4 x5 x0 K u2 0 0) ∧
        (¬ (4 : Int32) ≤ x3 →
          (x2 < 0 →
            xw0_pour_B42 Post mc ms x0 x1 x2 x3 x4 x5 x0 K u2 0 0) ∧
          (¬ x2 < 0 →
            (x4 < 0 →
              xw0_pour_B42 Post mc ms x0 x1 x2 x3 x4 x5 x0 K u2 0 0) ∧
            (¬ x4 < 0 →
              (x5 < 0 →
                xw0_pour_B42 Post mc ms x0 x1 x2 x3 x4 x5 x0 K u2 0 0) ∧
              (¬ x5 < 0 →
                xw0_pour_B43 Post mc ms x0 x1 x2 x3 x4 x5 (1 : Int32) x0 K u2 0 0)))))))
set_option maxHeartbeats 4000000 in
set_option maxRecDepth 100000 in
theorem txw0_pour_B80 {X : JC} {D : va_G} {dA aK aV : Nat → Nat} {sz : Nat} {K0 : XK} {mc ms : Nat} {Post : Int32 → XK → XS → Prop} {x0 : Nat} {x2 : Int32} {x4 : Int32} {x5 : Int32} {x6 : Nat} {x7 : Nat} {s0 : Int32} {s1 : Nat} {K : XK} {u : XS} {c s : Nat} (hX : JX X yX0_pour.cls cX0_pour 9 (Option.some Jvm.ClassFile.FieldType.boolean) 9 10248 mc ms) (hY : JY X D dA aK aV (AX K0 sz)) (hE : JE X [(85, 97, 100, 185), (5, 112, 113, 48)]) (hl : XLe K0 K) (hc : c ≤ mc) (hs : s ≤ ms) (h : xw0_pour_B80 Post mc ms x0 x2 x4 x5 x6 x7 s0 s1 K u c s) : JJ X (AX K0 sz) (jj_Q X (va_Qi (fun (r : Int32) (w : XK × XS) => Post r w.1 w.2 ∧ jj_z r) (jx_BA D dA K0 sz) (AX K0 sz)) mc ms (AX K0 sz)) 9 (XP D dA (AX K0 sz) K u) c s 80 [(0, .ref x0), (2, .int x2), (4, .int x4), (5, .int x5), (6, .ref x6), (7, .ref x7)] [.int s0, .ref s1] := by
  unfold xw0_pour_B80 at h
  refine jj_bipush hX dX0_pour_80 cb_8 82 rfl ?_
  obtain ⟨k82, h⟩ := h
  obtain ⟨m82, w82, hc82, hs82, h⟩ := h
  refine kxw0_want hX hY k82 q539 (Nat.le_of_ble_eq_true rfl) (Nat.le_of_ble_eq_true rfl) hc82 hs82 (Nat.le_of_ble_eq_true rfl) dX0_pour_82 85 rfl h (fun q82 K82 u82 hle82 h => jt_cs (k2 := (c + m82)) (n2 := (s + w82)) (by simp) (by simp) ?_) (fun K82 u82 hle82 h => jj_cs (k2 := (c + m82)) (n2 := (s + w82)) (by simp) (by simp) ?_)
  · have k82_1 := hle82.at k82 (by simp)
    have hl82 := hl.tr hle82
    refine jt_catch1 (nm := "RaisedPress$Refused") hX hY.2.1 hE rfl rfl (by decide) q239 nq241 ?_
    refine jj_astore (lv2 := [(0, .ref x0), (6, .ref q82)]) hX dX0_pour_113 (Nat.le_of_ble_eq_true rfl) [1, 0] rfl 115 rfl ?_
    refine jj_aload_n hX dX0_pour_115 0 rfl 116 rfl ?_
    refine jj_aload hX dX0_pour_116 1 rfl 118 rfl ?_
    obtain ⟨k118, h⟩ := h
    refine kxw0_no hX hY k118 q550 (Nat.le_of_ble_eq_true rfl) (Nat.le_of_ble_eq_true rfl) hc82 hs82 (Nat.le_of_ble_eq_true rfl) dX0_pour_118 121 rfl h (fun r118 u118 hb118 h => ?_)
    exact jj_retz (post := (fun (r : Int32) (w : XK × XS) => Post r w.1 w.2)) (u := (K82, u118)) hX dX0_pour_121 hc82 hs82 (jx_hBA hl82) hb118 h
  · have k82_1 := hle82.at k82 (by simp)
    have hl82 := hl.tr hle82
    refine jj_aload hX dX0_pour_85 4 rfl 87 rfl ?_
    refine jj_iload_n hX dX0_pour_87 1 rfl 88 rfl ?_
    refine jj_aload hX dX0_pour_88 5 rfl 90 rfl ?_
    refine jj_iload hX dX0_pour_90 2 rfl 92 rfl ?_
    refine jj_iload hX dX0_pour_92 3 rfl 94 rfl ?_
    obtain ⟨t94, n94, n94_1, g94, g94_1, g94_2, g94_3, g94_4, g94_5, g94_6, g94_7, h⟩ := h
    by_cases hi94 : (x2.toNatClampNeg + x5.toNatClampNeg ≤ n94 ∧ x4.toNatClampNeg + x5.toNatClampNeg ≤ n94_1)
    · have h := h.1 hi94
      refine jx_copyg hX hY g94_1 g94_2 g94 q610 g94_5 g94_6 g94_7 hi94.1 hi94.2 (Nat.le_of_ble_eq_true rfl) (Nat.le_of_ble_eq_true (by decide)) (by simp [jx_rfc, jx_c1, jx_c2, jx_c3, jx_c4]) dX0_pour_94 97 rfl (fun u94 e94 => ?_)
      have h := h u94 e94
      refine jj_goto hX dX0_pour_97 111 (by decide) ?_
      refine jj_iconst hX dX0_pour_111 ci_1 112 rfl ?_
      exact jj_retz (post := (fun (r : Int32) (w : XK × XS) => Post r w.1 w.2)) (u := (K82, u94)) hX dX0_pour_112 hc82 hs82 (jx_hBA hl82) jj_z1 h
    · obtain ⟨hc94, hs94, h⟩ := h.2 hi94
      refine jv_copyout hX hY g94_1 g94_2 g94 g94_3 g94_4 q610 g94_5 g94_6 g94_7 hi94 (Nat.le_of_ble_eq_true rfl) (Nat.le_of_ble_eq_true rfl) (by simp [jx_rfc, jx_c1, jx_c2, jx_c3, jx_c4]) hc94 hs94 dX0_pour_94 (fun q94 => ?_)
      have h := h q94
      refine jt_catch0 (nm := "java/lang/IndexOutOfBoundsException") hX hY.2.1 hE rfl (by decide) q606 nq2199 ?_
      refine jj_astore (lv2 := [(0, .ref x0), (8, .ref q94)]) hX dX0_pour_100 (Nat.le_of_ble_eq_true rfl) [1, 0] rfl 102 rfl ?_
      refine jj_aload_n hX dX0_pour_102 0 rfl 103 rfl ?_
      obtain ⟨k103, h⟩ := h
      refine xg0_6 hX hY k103 dX0_pour_103 q417 106 rfl ?_
      refine jj_iconst hX dX0_pour_106 ci_3 107 rfl ?_
      obtain ⟨b107, g107, h⟩ := h
      refine jj_st (st2 := [.int (3 : Int32), .ref b107]) (by rw [va_rf_some g107]) ?_
      obtain ⟨k107, h⟩ := h
      refine kxw3_by hX hY k107 q543 (Nat.le_of_ble_eq_true rfl) (Nat.le_of_ble_eq_true rfl) hc94 hs94 (Nat.le_of_ble_eq_true rfl) dX0_pour_107 110 rfl h (fun r107 u107 h => ?_)
      obtain ⟨k110, h⟩ := h
      refine jj_athrow hX hY jf3 k110 dX0_pour_110 ?_
      refine jt_catch1 (nm := "RaisedPress$Refused") hX hY.2.1 hE rfl rfl (by decide) q239 nq241 ?_
      refine jj_astore (lv2 := [(0, .ref x0), (6, .ref r107)]) hX dX0_pour_113 (Nat.le_of_ble_eq_true rfl) [1, 0] rfl 115 rfl ?_
      refine jj_aload_n hX dX0_pour_115 0 rfl 116 rfl ?_
      refine jj_aload hX dX0_pour_116 1 rfl 118 rfl ?_
      refine kxw0_no hX hY k103 q550 (Nat.le_of_ble_eq_true rfl) (Nat.le_of_ble_eq_true rfl) hc94 hs94 (Nat.le_of_ble_eq_true rfl) dX0_pour_118 121 rfl h (fun r118 u118 hb118 h => ?_)
      exact jj_retz (post := (fun (r : Int32) (w : XK × XS) => Post r w.1 w.2)) (u := (K82, u118)) hX dX0_pour_121 hc94 hs94 (jx_hBA hl82) hb118 h
set_option maxHeartbeats 4000000 in
set_option maxRecDepth 100000 in
theorem txw0_pour_B43 {X : JC} {D : va_G} {dA aK aV : Nat → Nat} {sz : Nat} {K0 : XK} {mc ms : Nat} {Post : Int32 → XK → XS → Prop} {x0 : Nat} {x1 : Int32} {x2 : Int32} {x3 : Int32} {x4 : Int32} {x5 : Int32} {s0 : Int32} {s1 : Nat} {K : XK} {u : XS} {c s : Nat} (hX : JX X yX0_pour.cls cX0_pour 9 (Option.some Jvm.ClassFile.FieldType.boolean) 9 10248 mc ms) (hY : JY X D dA aK aV (AX K0 sz)) (hE : JE X [(85, 97, 100, 185), (5, 112, 113, 48)]) (hl : XLe K0 K) (hc : c ≤ mc) (hs : s ≤ ms) (h : xw0_pour_B43 Post mc ms x0 x1 x2 x3 x4 x5 s0 s1 K u c s) : JJ X (AX K0 sz) (jj_Q X (va_Qi (fun (r : Int32) (w : XK × XS) => Post r w.1 w.2 ∧ jj_z r) (jx_BA D dA K0 sz) (AX K0 sz)) mc ms (AX K0 sz)) 9 (XP D dA (AX K0 sz) K u) c s 43 [(0, .ref x0), (1, .int x1), (2, .int x2), (3, .int x3), (4, .int x4), (5, .int x5)] [.int s0, .ref s1] := by
  unfold xw0_pour_B43 at h
  refine jj_iconst hX dX0_pour_43 ci_1 44 rfl ?_
  obtain ⟨k44, h⟩ := h
  obtain ⟨m44, w44, hc44, hs44, h⟩ := h
  refine kxw0_want hX hY k44 q539 (Nat.le_of_ble_eq_true rfl) (Nat.le_of_ble_eq_true rfl) hc44 hs44 (Nat.le_of_ble_eq_true rfl) dX0_pour_44 47 rfl h (fun q44 K44 u44 hle44 h => jt_cs (k2 := (c + m44)) (n2 := (s + w44)) (by simp) (by simp) ?_) (fun K44 u44 hle44 h => jj_cs (k2 := (c + m44)) (n2 := (s + w44)) (by simp) (by simp) ?_)
  · have k44_1 := hle44.at k44 (by simp)
    have hl44 := hl.tr hle44
    refine jt_catch1 (nm := "RaisedPress$Refused") hX hY.2.1 hE rfl rfl (by decide) q239 nq241 ?_
    refine jj_astore (lv2 := [(0, .ref x0), (6, .ref q44)]) hX dX0_pour_113 (Nat.le_of_ble_eq_true rfl) [1, 0] rfl 115 rfl ?_
    refine jj_aload_n hX dX0_pour_115 0 rfl 116 rfl ?_
    refine jj_aload hX dX0_pour_116 1 rfl 118 rfl ?_
    obtain ⟨k118, h⟩ := h
    refine kxw0_no hX hY k118 q550 (Nat.le_of_ble_eq_true rfl) (Nat.le_of_ble_eq_true rfl) hc44 hs44 (Nat.le_of_ble_eq_true rfl) dX0_pour_118 121 rfl h (fun r118 u118 hb118 h => ?_)
    exact jj_retz (post := (fun (r : Int32) (w : XK × XS) => Post r w.1 w.2)) (u := (K44, u118)) hX dX0_pour_121 hc44 hs44 (jx_hBA hl44) hb118 h
  · have k44_1 := hle44.at k44 (by simp)
    have hl44 := hl.tr hle44
    refine jj_aload_n hX dX0_pour_47 0 rfl 48 rfl ?_
    refine jj_iload_n hX dX0_pour_48 1 rfl 49 rfl ?_
    obtain ⟨k49, h⟩ := h
    obtain ⟨m49, w49, hc49, hs49, h⟩ := h
    refine kxw0_on hX hY k49 q579 (Nat.le_of_ble_eq_true rfl) (Nat.le_of_ble_eq_true rfl) hc49 hs49 (Nat.le_of_ble_eq_true rfl) dX0_pour_49 52 rfl h (fun q49 K49 u49 hle49 h => jt_cs (k2 := ((c + m44) + m49)) (n2 := ((s + w44) + w49)) (by simp) (by simp) ?_) (fun r49 K49 u49 hle49 h => jj_cs (k2 := ((c + m44) + m49)) (n2 := ((s + w44) + w49)) (by simp) (by simp) ?_)
    · have k49_1 := hle49.at k44_1 (by simp)
      have k49_2 := hle49.at k49 (by simp)
      have hl49 := hl44.tr hle49
      refine jt_catch1 (nm := "RaisedPress$Refused") hX hY.2.1 hE rfl rfl (by decide) q239 nq241 ?_
      refine jj_astore (lv2 := [(0, .ref x0), (6, .ref q49)]) hX dX0_pour_113 (Nat.le_of_ble_eq_true rfl) [1, 0] rfl 115 rfl ?_
      refine jj_aload_n hX dX0_pour_115 0 rfl 116 rfl ?_
      refine jj_aload hX dX0_pour_116 1 rfl 118 rfl ?_
      refine kxw0_no hX hY k49_2 q550 (Nat.le_of_ble_eq_true rfl) (Nat.le_of_ble_eq_true rfl) hc49 hs49 (Nat.le_of_ble_eq_true rfl) dX0_pour_118 121 rfl h (fun r118 u118 hb118 h => ?_)
      exact jj_retz (post := (fun (r : Int32) (w : XK × XS) => Post r w.1 w.2)) (u := (K49, u118)) hX dX0_pour_121 hc49 hs49 (jx_hBA hl49) hb118 h
    · have k49_1 := hle49.at k44_1 (by simp)
      have k49_2 := hle49.at k49 (by simp)
      have hl49 := hl44.tr hle49
      refine jj_astore (lv2 := [(0, .ref x0), (2, .int x2), (3, .int x3), (4, .int x4), (5, .int x5), (6, .ref r49)]) hX dX0_pour_52 (Nat.le_of_ble_eq_true rfl) [1, 3, 4, 5, 6, 0] rfl 54 rfl ?_
      refine jj_aload_n hX dX0_pour_54 0 rfl 55 rfl ?_
      refine jj_iload_n hX dX0_pour_55 2 rfl 56 rfl ?_
      obtain ⟨m56, w56, hc56, hs56, h⟩ := h
      refine kxw0_on hX hY k49_2 q579 (Nat.le_of_ble_eq_true rfl) (Nat.le_of_ble_eq_true rfl) hc56 hs56 (Nat.le_of_ble_eq_true rfl) dX0_pour_56 59 rfl h (fun q56 K56 u56 hle56 h => jt_cs (k2 := (((c + m44) + m49) + m56)) (n2 := (((s + w44) + w49) + w56)) (by simp) (by simp) ?_) (fun r56 K56 u56 hle56 h => jj_cs (k2 := (((c + m44) + m49) + m56)) (n2 := (((s + w44) + w49) + w56)) (by simp) (by simp) ?_)
      · have k56 := hle56.at k49_1 (by simp)
        have k56_1 := hle56.at k49_2 (by simp)
        have hl56 := hl49.tr hle56
        refine jt_catch1 (nm := "RaisedPress$Refused") hX hY.2.1 hE rfl rfl (by decide) q239 nq241 ?_
        refine jj_astore (lv2 := [(0, .ref x0), (6, .ref q56)]) hX dX0_pour_113 (Nat.le_of_ble_eq_true rfl) [1, 0] rfl 115 rfl ?_
        refine jj_aload_n hX dX0_pour_115 0 rfl 116 rfl ?_
        refine jj_aload hX dX0_pour_116 1 rfl 118 rfl ?_
        refine kxw0_no hX hY k56_1 q550 (Nat.le_of_ble_eq_true rfl) (Nat.le_of_ble_eq_true rfl) hc56 hs56 (Nat.le_of_ble_eq_true rfl) dX0_pour_118 121 rfl h (fun r118 u118 hb118 h => ?_)
        exact jj_retz (post := (fun (r : Int32) (w : XK × XS) => Post r w.1 w.2)) (u := (K56, u118)) hX dX0_pour_121 hc56 hs56 (jx_hBA hl56) hb118 h
      · have k56 := hle56.at k49_1 (by simp)
        have k56_1 := hle56.at k49_2 (by simp)
        have hl56 := hl49.tr hle56
        refine jj_astore (lv2 := [(0, .ref x0), (2, .int x2), (4, .int x4), (5, .int x5), (6, .ref r49), (7, .ref r56)]) hX dX0_pour_59 (Nat.le_of_ble_eq_true rfl) [1, 2, 4, 5, 6, 0] rfl 61 rfl ?_
        refine jj_aload_n hX dX0_pour_61 0 rfl 62 rfl ?_
        refine jj_aload hX dX0_pour_62 4 rfl 64 rfl ?_
        refine kxw0_sortOf hX hY q607 (Nat.le_of_ble_eq_true rfl) (Nat.le_of_ble_eq_true rfl) hc56 hs56 (Nat.le_of_ble_eq_true rfl) dX0_pour_64 67 rfl h (fun r64 u64 h => ?_)
        refine jj_aload hX dX0_pour_67 5 rfl 69 rfl ?_
        refine kxw0_sortOf hX hY q607 (Nat.le_of_ble_eq_true rfl) (Nat.le_of_ble_eq_true rfl) hc56 hs56 (Nat.le_of_ble_eq_true rfl) dX0_pour_69 72 rfl h (fun r69 u69 h => ?_)
        refine jj_icmp_ne hX dX0_pour_72 79 75 (by decide) rfl (fun c72 => ?_) (fun c72 => ?_)
        · have h := h.1 c72
          refine jj_iconst hX dX0_pour_79 ci_0 80 rfl ?_
          exact txw0_pour_B80 hX hY hE hl56 hc56 hs56 h
        · have h := h.2 c72
          refine jj_iconst hX dX0_pour_75 ci_1 76 rfl ?_
          refine jj_goto hX dX0_pour_76 80 (by decide) ?_
          exact txw0_pour_B80 hX hY hE hl56 hc56 hs56 h
set_option maxHeartbeats 4000000 in
set_option maxRecDepth 100000 in
theorem txw0_pour_B42 {X : JC} {D : va_G} {dA aK aV : Nat → Nat} {sz : Nat} {K0 : XK} {mc ms : Nat} {Post : Int32 → XK → XS → Prop} {x0 : Nat} {x1 : Int32} {x2 : Int32} {x3 : Int32} {x4 : Int32} {x5 : Int32} {s0 : Nat} {K : XK} {u : XS} {c s : Nat} (hX : JX X yX0_pour.cls cX0_pour 9 (Option.some Jvm.ClassFile.FieldType.boolean) 9 10248 mc ms) (hY : JY X D dA aK aV (AX K0 sz)) (hE : JE X [(85, 97, 100, 185), (5, 112, 113, 48)]) (hl : XLe K0 K) (hc : c ≤ mc) (hs : s ≤ ms) (h : xw0_pour_B42 Post mc ms x0 x1 x2 x3 x4 x5 s0 K u c s) : JJ X (AX K0 sz) (jj_Q X (va_Qi (fun (r : Int32) (w : XK × XS) => Post r w.1 w.2 ∧ jj_z r) (jx_BA D dA K0 sz) (AX K0 sz)) mc ms (AX K0 sz)) 9 (XP D dA (AX K0 sz) K u) c s 42 [(0, .ref x0), (1, .int x1), (2, .int x2), (3, .int x3), (4, .int x4), (5, .int x5)] [.ref s0] := by
  unfold xw0_pour_B42 at h
  refine jj_iconst hX dX0_pour_42 ci_0 43 rfl ?_
  exact txw0_pour_B43 hX hY hE hl hc hs h
set_option maxHeartbeats 4000000 in
set_option maxRecDepth 100000 in
theorem mxw0_pour (l : Launch) (hfl : l.stackTraces = false) (D : va_G) (dA aK aV : Nat → Nat) (x0 : Nat) (x1 : Int32) (x2 : Int32) (x3 : Int32) (x4 : Int32) (x5 : Int32) (K : XK) (u : XS) (mc ms : Nat) (Post : Int32 → XK → XS → Prop) (h : xw0_pour x0 x1 x2 x3 x4 x5 K u mc ms Post) (sz : Nat) : Met l yX0_pour (wsW_ yX0_pour cX0_pour 9 (Option.some Jvm.ClassFile.FieldType.boolean) [(85, 97, 100, 185), (5, 112, 113, 48)]) (jx_rm 9 10248 mc ms) (jx_Pc D dA aK aV K u sz [.ref x0, .int x1, .int x2, .int x3, .int x4, .int x5]) (va_Qi (fun (r : Int32) (w : XK × XS) => Post r w.1 w.2 ∧ jj_z r) (jx_BA D dA K sz) (AX K sz)) mc ms (AX K sz) := by
  refine jx_startW hfl [.ref x0, .int x1, .int x2, .int x3, .int x4, .int x5] [(0, .ref x0), (1, .int x1), (2, .int x2), (3, .int x3), (4, .int x4), (5, .int x5)] (by decide) (Nat.le_of_ble_eq_true rfl) rfl (fun X hX hY hE => ?_)
  unfold xw0_pour at h
  refine jj_aload_n hX dX0_pour_0 0 rfl 1 rfl ?_
  refine jj_iconst hX dX0_pour_1 ci_0 2 rfl ?_
  obtain ⟨k2, h⟩ := h
  refine xp0_7 hX hY k2 dX0_pour_2 q418 5 rfl (fun u2 e2 => ?_)
  have h := h u2 e2
  refine jj_aload_n hX dX0_pour_5 0 rfl 6 rfl ?_
  refine jj_iload_n hX dX0_pour_6 1 rfl 7 rfl ?_
  refine jj_if_lt hX dX0_pour_7 42 10 (by decide) rfl (fun c7 => ?_) (fun c7 => ?_)
  · have h := h.1 c7
    exact txw0_pour_B42 hX hY hE XLe.rf (Nat.zero_le _) (Nat.zero_le _) h
  · have h := h.2 c7
    refine jj_iload_n hX dX0_pour_10 1 rfl 11 rfl ?_
    refine jj_iconst hX dX0_pour_11 ci_4 12 rfl ?_
    refine jj_icmp_ge hX dX0_pour_12 42 15 (by decide) rfl (fun c12 => ?_) (fun c12 => ?_)
    · have h := h.1 c12
      exact txw0_pour_B42 hX hY hE XLe.rf (Nat.zero_le _) (Nat.zero_le _) h
    · have h := h.2 c12
      refine jj_iload_n hX dX0_pour_15 3 rfl 16 rfl ?_
      refine jj_if_lt hX dX0_pour_16 42 19 (by decide) rfl (fun c16 => ?_) (fun c16 => ?_)
      · have h := h.1 c16
        exact txw0_pour_B42 hX hY hE XLe.rf (Nat.zero_le _) (Nat.zero_le _) h
      · have h := h.2 c16
        refine jj_iload_n hX dX0_pour_19 3 rfl 20 rfl ?_
        refine jj_iconst hX dX0_pour_20 ci_4 21 rfl ?_
        refine jj_icmp_ge hX dX0_pour_21 42 24 (by decide) rfl (fun c21 => ?_) (fun c21 => ?_)
        · have h := h.1 c21
          exact txw0_pour_B42 hX hY hE XLe.rf (Nat.zero_le _) (Nat.zero_le _) h
        · have h := h.2 c21
          refine jj_iload_n hX dX0_pour_24 2 rfl 25 rfl ?_
          refine jj_if_lt hX dX0_pour_25 42 28 (by decide) rfl (fun c25 => ?_) (fun c25 => ?_)
          · have h := h.1 c25
            exact txw0_pour_B42 hX hY hE XLe.rf (Nat.zero_le _) (Nat.zero_le _) h
          · have h := h.2 c25
            refine jj_iload hX dX0_pour_28 4 rfl 30 rfl ?_
            refine jj_if_lt hX dX0_pour_30 42 33 (by decide) rfl (fun c30 => ?_) (fun c30 => ?_)
            · have h := h.1 c30
              exact txw0_pour_B42 hX hY hE XLe.rf (Nat.zero_le _) (Nat.zero_le _) h
            · have h := h.2 c30
              refine jj_iload hX dX0_pour_33 5 rfl 35 rfl ?_
              refine jj_if_lt hX dX0_pour_35 42 38 (by decide) rfl (fun c35 => ?_) (fun c35 => ?_)
              · have h := h.1 c35
                exact txw0_pour_B42 hX hY hE XLe.rf (Nat.zero_le _) (Nat.zero_le _) h
              · have h := h.2 c35
                refine jj_iconst hX dX0_pour_38 ci_1 39 rfl ?_
                refine jj_goto hX dX0_pour_39 43 (by decide) ?_
                exact txw0_pour_B43 hX hY hE XLe.rf (Nat.zero_le _) (Nat.zero_le _) h
theorem hd_xw0_pour : yX0_pour.cls ≠ "java/lang/invoke/MethodHandle" ∧ yX0_pour.cls ≠ "java/lang/invoke/VarHandle" ∧ (parseMethodDescriptor yX0_pour.desc).map (fun d => d.parameters.length) = some 5 := by decide +kernel
theorem kxw0_pour {X : JC} {A : Nat → Prop} {Q : State → Prop} {nL k n pc : Nat} {lv : List (Nat × Value)} {st : List Value} {own : String} {cc : ByteArray} {ret : Option FieldType} {F LL mc ms ix mc2 ms2 : Nat} {D : va_G} {dA aK aV : Nat → Nat} {K : XK} {u : XS} {x0 : Nat} {x1 : Int32} {x2 : Int32} {x3 : Int32} {x4 : Int32} {x5 : Int32} {Post : Int32 → XK → XS → Prop} (hX : JX X own cc nL ret F LL mc ms) (hY : JY X D dA aK aV A) (h1a : K x0 = (1, 0)) (hlk : (Cond.methodLink own ix yX0_pour) ∈ lw_all) (hF : 9 + 1 ≤ F) (hL : 8 + (9 + 11) + 10248 ≤ LL) (hk : k + mc2 ≤ mc) (hk2 : n + ms2 ≤ ms) (hw : (st.map fun v => v.category).sum ≤ 8) (d : decode cc pc = .ok (.invokevirtual ix, 3)) (q : Nat) (hq : pc + 3 = q) (h : xw0_pour x0 x1 x2 x3 x4 x5 K u mc2 ms2 Post) (kk : ∀ (r : Int32) (K2 : XK) (u2 : XS), XLe K K2 → jj_z r → Post r K2 u2 → JJ X A Q nL (XP D dA A K2 u2) (k + mc2) (n + ms2) q lv (.int r :: st)) : JJ X A Q nL (XP D dA A K u) k n pc lv (.int x5 :: .int x4 :: .int x3 :: .int x2 :: .int x1 :: .ref x0 :: st) :=
  jx_callWVz (na := 5) (As := [.int x1, .int x2, .int x3, .int x4, .int x5]) hX hY jf0 h1a (fun sz => mxw0_pour (jj_l X) hY.2.2.2.2 D dA aK aV x0 x1 x2 x3 x4 x5 K u mc2 ms2 Post h sz) hlk q603 q604 q120 q605 ⟨rfl, hd_xw0_pour⟩ rfl rfl hw hF hL hk hk2 d q hq kk
