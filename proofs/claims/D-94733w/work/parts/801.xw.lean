set_option linter.unusedVariables false
def xw0_lay_L3_S (Post : XS → Prop) (K : XK) (x0 : Nat) (x1 : Int32) (R : Int32 → XS → Prop) (x2 : Int32) (u : XS) : Prop :=
  (x2 < 0 →
    Post u) ∧
  (¬ x2 < 0 →
    K x0 = (1, 0) ∧
    ∃ b19, (xr u x0 2) = some b19 ∧
    ∃ n19, K b19 = (3, n19) ∧
    vp_in (xi u x0 3) n19 ∧
    ∀ u19 : XS, u19 = xsi u b19 (xi u x0 3).toNatClampNeg (x1 >>> (x2 &&& 31)).toInt8.toInt32.toInt8.toInt32 →
    ∀ u27 : XS, u27 = xsi u19 x0 3 ((xi u19 x0 3) + (1 : Int32)) →
    ∀ v30 : Int32, v30 = x2 + (-8 : Int32) →
    R v30 u27)
def xw0_lay_L3 (Post : XS → Prop) (K : XK) (x0 : Nat) (x1 : Int32) : Nat → Int32 → XS → Prop
  | 0 => fun _ _ => False
  | n + 1 => fun x2 u => xw0_lay_L3_S Post K x0 x1 (xw0_lay_L3 Post K x0 x1 n) x2 u
/-- RaisedPress.lay(I)V -/
def xw0_lay (x0 : Nat) (x1 : Int32) (K : XK) (u : XS) (Post : XS → Prop) : Prop :=
  ∃ n, xw0_lay_L3 Post K x0 x1 n (24 : Int32) u
set_option maxHeartbeats 4000000 in
set_option maxRecDepth 100000 in
theorem txw0_lay_L3 {X : JC} {D : va_G} {dA aK aV : Nat → Nat} {sz : Nat} {K : XK} {Post : XS → Prop} {x0 : Nat} {x1 : Int32} (hX : JX X yX0_lay.cls cX0_lay 3 (Option.none : Option Jvm.ClassFile.FieldType) 0 0 0 0) (hY : JY X D dA aK aV (AX K sz)) : ∀ (n : Nat) (x2 : Int32) (u : XS), xw0_lay_L3 Post K x0 x1 n x2 u → JJ X (AX K sz) (jj_Q X (va_Qv (fun w : XS => Post w) (jx_B D dA K) (AX K sz)) 0 0 (AX K sz)) 3 (XP D dA (AX K sz) K u) 0 0 3 [(0, .ref x0), (1, .int x1), (2, .int x2)] [] := by
  intro n
  induction n with
  | zero =>
    intro x2 u h
    exact h.elim
  | succ n ih =>
    intro x2 u h
    have h : xw0_lay_L3_S Post K x0 x1 (xw0_lay_L3 Post K x0 x1 n) x2 u := h
    unfold xw0_lay_L3_S at h
    refine jj_iload_n hX dX0_lay_3 2 rfl 4 rfl ?_
    refine jj_if_lt hX dX0_lay_4 36 7 (by decide) rfl (fun c4 => ?_) (fun c4 => ?_)
    · have h := h.1 c4
      exact jj_retv (post := (fun w : XS => Post w)) (u := u) hX dX0_lay_36 (Nat.le_refl 0) (Nat.le_refl 0) jx_hB h
    · have h := h.2 c4
      refine jj_aload_n hX dX0_lay_7 0 rfl 8 rfl ?_
      obtain ⟨k8, h⟩ := h
      refine xg0_2 hX hY k8 dX0_lay_8 q413 11 rfl ?_
      refine jj_aload_n hX dX0_lay_11 0 rfl 12 rfl ?_
      refine xg0_3 hX hY k8 dX0_lay_12 q414 15 rfl ?_
      refine jj_iload_n hX dX0_lay_15 1 rfl 16 rfl ?_
      refine jj_iload_n hX dX0_lay_16 2 rfl 17 rfl ?_
      refine jj_ishr hX dX0_lay_17 18 rfl ?_
      refine jj_i2b hX dX0_lay_18 19 rfl ?_
      obtain ⟨b19, g19, h⟩ := h
      refine jj_st (st2 := [.int (x1 >>> (x2 &&& 31)).toInt8.toInt32, .int (xi u x0 3), .ref b19]) (by rw [va_rf_some g19]) ?_
      obtain ⟨n19, k19, h⟩ := h
      obtain ⟨hi19, h⟩ := h
      refine jx_bast hX hY.1 k19 _ rfl hi19 dX0_lay_19 20 rfl (fun u19 e19 => ?_)
      have h := h u19 e19
      refine jj_aload_n hX dX0_lay_20 0 rfl 21 rfl ?_
      refine jj_dup hX dX0_lay_21 rfl 22 rfl ?_
      refine xg0_3 hX hY k8 dX0_lay_22 q414 25 rfl ?_
      refine jj_iconst hX dX0_lay_25 ci_1 26 rfl ?_
      refine jj_iadd hX dX0_lay_26 27 rfl ?_
      refine xp0_3 hX hY k8 dX0_lay_27 q414 30 rfl (fun u27 e27 => ?_)
      have h := h u27 e27
      obtain ⟨v30, e30⟩ : ∃ y : Int32, y = x2 + (-8 : Int32) := ⟨_, rfl⟩
      have h := h v30 e30
      refine jj_iinc (v := v30) (lv2 := [(0, .ref x0), (1, .int x1), (2, .int v30)]) hX dX0_lay_30 2 rfl (by rw [e30, ci_m8]) (Nat.le_of_ble_eq_true rfl) [1, 2, 0] rfl 33 rfl ?_
      refine jj_goto hX dX0_lay_33 3 (by decide) ?_
      exact ih _ _ h
set_option maxHeartbeats 4000000 in
set_option maxRecDepth 100000 in
theorem mxw0_lay (l : Launch) (hfl : l.stackTraces = false) (D : va_G) (dA aK aV : Nat → Nat) (x0 : Nat) (x1 : Int32) (K : XK) (u : XS) (Post : XS → Prop) (h : xw0_lay x0 x1 K u Post) (sz : Nat) : Met l yX0_lay (ws_ yX0_lay cX0_lay 3 (Option.none : Option Jvm.ClassFile.FieldType)) (jx_rm 0 0 0 0) (jx_Pc D dA aK aV K u sz [.ref x0, .int x1]) (va_Qv (fun w : XS => Post w) (jx_B D dA K) (AX K sz)) 0 0 (AX K sz) := by
  refine jx_start hfl [.ref x0, .int x1] [(0, .ref x0), (1, .int x1)] (by decide) (Nat.le_of_ble_eq_true rfl) rfl (fun X hX hY hin => ?_)
  unfold xw0_lay at h
  refine jj_bipush hX dX0_lay_0 cb_24 2 rfl ?_
  refine jj_istore_n (lv2 := [(0, .ref x0), (1, .int x1), (2, .int (24 : Int32))]) hX dX0_lay_2 (Nat.le_of_ble_eq_true rfl) [1, 2, 0] rfl 3 rfl ?_
  obtain ⟨n9, h⟩ := h
  exact txw0_lay_L3 hX hY n9 _ _ h
theorem hd_xw0_lay : yX0_lay.cls ≠ "java/lang/invoke/MethodHandle" ∧ yX0_lay.cls ≠ "java/lang/invoke/VarHandle" ∧ (parseMethodDescriptor yX0_lay.desc).map (fun d => d.parameters.length) = some 1 := by decide +kernel
theorem kxw0_lay {X : JC} {A : Nat → Prop} {Q : State → Prop} {nL k n pc : Nat} {lv : List (Nat × Value)} {st : List Value} {own : String} {cc : ByteArray} {ret : Option FieldType} {F LL mc ms ix : Nat} {D : va_G} {dA aK aV : Nat → Nat} {K : XK} {u : XS} {x0 : Nat} {x1 : Int32} {Post : XS → Prop} (hX : JX X own cc nL ret F LL mc ms) (hY : JY X D dA aK aV A) (h1a : K x0 = (1, 0)) (hlk : (Cond.methodLink own ix yX0_lay) ∈ lw_all) (hF : 0 + 1 ≤ F) (hL : 8 + (3 + 11) + 0 ≤ LL) (hk : k ≤ mc) (hk2 : n ≤ ms) (hw : (st.map fun v => v.category).sum ≤ 8) (d : decode cc pc = .ok (.invokevirtual ix, 3)) (q : Nat) (hq : pc + 3 = q) (h : xw0_lay x0 x1 K u  Post) (kk : ∀ (u2 : XS), Post u2 → JJ X A Q nL (XP D dA A K u2) k n q lv (st)) : JJ X A Q nL (XP D dA A K u) k n pc lv (.int x1 :: .ref x0 :: st) :=
  jx_callVv (na := 1) (As := [.int x1]) hX hY jf0 h1a (fun sz => mxw0_lay (jj_l X) hY.2.2.2.2 D dA aK aV x0 x1 K u  Post h sz) hlk q619 qs5 q120 q620 ⟨rfl, hd_xw0_lay⟩ rfl rfl hw hF hL hk hk2 d q hq kk
theorem knxw0_lay {X : JC} {A : Nat → Prop} {Q : State → Prop} {nL k n pc : Nat} {lv : List (Nat × Value)} {st : List Value} {own : String} {cc : ByteArray} {ret : Option FieldType} {F LL mc ms ix : Nat} {D : va_G} {dA aK aV : Nat → Nat} {K : XK} {u : XS} {x0 : Nat} {x1 : Int32} {host : String} {Post : XS → Prop} (hX : JX X own cc nL ret F LL mc ms) (hY : JY X D dA aK aV A) (h1a : K x0 = (1, 0)) (hlk : (Cond.methodLinkNest own ix yX0_lay host) ∈ jx_nest) (hF : 0 + 1 ≤ F) (hL : 8 + (3 + 11) + 0 ≤ LL) (hk : k ≤ mc) (hk2 : n ≤ ms) (hw : (st.map fun v => v.category).sum ≤ 8) (d : decode cc pc = .ok (.invokevirtual ix, 3)) (q : Nat) (hq : pc + 3 = q) (h : xw0_lay x0 x1 K u  Post) (kk : ∀ (u2 : XS), Post u2 → JJ X A Q nL (XP D dA A K u2) k n q lv (st)) : JJ X A Q nL (XP D dA A K u) k n pc lv (.int x1 :: .ref x0 :: st) :=
  jx_callNv (na := 1) (As := [.int x1]) hX hY jf0 h1a (fun sz => mxw0_lay (jj_l X) hY.2.2.2.2 D dA aK aV x0 x1 K u  Post h sz) hlk q619 qs5 q120 q620 hd_xw0_lay rfl rfl hw hF hL hk hk2 d q hq kk
/-- RaisedPress.feed(IIIII)I -/
def xw0_feed (x0 : Nat) (x1 : Int32) (x2 : Int32) (x3 : Int32) (x4 : Int32) (x5 : Int32) (K : XK) (u : XS) (Post : Int32 → XS → Prop) : Prop :=
  K x0 = (1, 0) ∧
  (((xi u x0 3) + (20 : Int32)) ≤ (900 : Int32) →
    xw0_lay x0 x1 K u (fun u17 =>
      xw0_lay x0 x2 K u17 (fun u22 =>
        xw0_lay x0 x3 K u22 (fun u27 =>
          xw0_lay x0 x4 K u27 (fun u33 =>
            xw0_lay x0 x5 K u33 (fun u39 =>
              Post (xi u39 x0 3) u39)))))) ∧
  (¬ ((xi u x0 3) + (20 : Int32)) ≤ (900 : Int32) →
    Post (-1 : Int32) u)
set_option maxHeartbeats 4000000 in
set_option maxRecDepth 100000 in
theorem mxw0_feed (l : Launch) (hfl : l.stackTraces = false) (D : va_G) (dA aK aV : Nat → Nat) (x0 : Nat) (x1 : Int32) (x2 : Int32) (x3 : Int32) (x4 : Int32) (x5 : Int32) (K : XK) (u : XS) (Post : Int32 → XS → Prop) (h : xw0_feed x0 x1 x2 x3 x4 x5 K u Post) (sz : Nat) : Met l yX0_feed (ws_ yX0_feed cX0_feed 6 (Option.some Jvm.ClassFile.FieldType.int)) (jx_rm 1 22 0 0) (jx_Pc D dA aK aV K u sz [.ref x0, .int x1, .int x2, .int x3, .int x4, .int x5]) (va_Qi (fun (r : Int32) (w : XS) => Post r w) (jx_B D dA K) (AX K sz)) 0 0 (AX K sz) := by
  refine jx_start hfl [.ref x0, .int x1, .int x2, .int x3, .int x4, .int x5] [(0, .ref x0), (1, .int x1), (2, .int x2), (3, .int x3), (4, .int x4), (5, .int x5)] (by decide) (Nat.le_of_ble_eq_true rfl) rfl (fun X hX hY hin => ?_)
  unfold xw0_feed at h
  refine jj_aload_n hX dX0_feed_0 0 rfl 1 rfl ?_
  obtain ⟨k1, h⟩ := h
  refine xg0_3 hX hY k1 dX0_feed_1 q414 4 rfl ?_
  refine jj_bipush hX dX0_feed_4 cb_20 6 rfl ?_
  refine jj_iadd hX dX0_feed_6 7 rfl ?_
  refine jj_sipush hX dX0_feed_7 cs_900 10 rfl ?_
  refine jj_icmp_le hX dX0_feed_10 15 13 (by decide) rfl (fun c10 => ?_) (fun c10 => ?_)
  · have h := h.1 c10
    refine jj_aload_n hX dX0_feed_15 0 rfl 16 rfl ?_
    refine jj_iload_n hX dX0_feed_16 1 rfl 17 rfl ?_
    refine kxw0_lay hX hY k1 q617 (Nat.le_of_ble_eq_true rfl) (Nat.le_of_ble_eq_true rfl) (Nat.zero_le _) (Nat.zero_le _) (Nat.le_of_ble_eq_true rfl) dX0_feed_17 20 rfl h (fun u17 h => ?_)
    refine jj_aload_n hX dX0_feed_20 0 rfl 21 rfl ?_
    refine jj_iload_n hX dX0_feed_21 2 rfl 22 rfl ?_
    refine kxw0_lay hX hY k1 q617 (Nat.le_of_ble_eq_true rfl) (Nat.le_of_ble_eq_true rfl) (Nat.zero_le _) (Nat.zero_le _) (Nat.le_of_ble_eq_true rfl) dX0_feed_22 25 rfl h (fun u22 h => ?_)
    refine jj_aload_n hX dX0_feed_25 0 rfl 26 rfl ?_
    refine jj_iload_n hX dX0_feed_26 3 rfl 27 rfl ?_
    refine kxw0_lay hX hY k1 q617 (Nat.le_of_ble_eq_true rfl) (Nat.le_of_ble_eq_true rfl) (Nat.zero_le _) (Nat.zero_le _) (Nat.le_of_ble_eq_true rfl) dX0_feed_27 30 rfl h (fun u27 h => ?_)
    refine jj_aload_n hX dX0_feed_30 0 rfl 31 rfl ?_
    refine jj_iload hX dX0_feed_31 4 rfl 33 rfl ?_
    refine kxw0_lay hX hY k1 q617 (Nat.le_of_ble_eq_true rfl) (Nat.le_of_ble_eq_true rfl) (Nat.zero_le _) (Nat.zero_le _) (Nat.le_of_ble_eq_true rfl) dX0_feed_33 36 rfl h (fun u33 h => ?_)
    refine jj_aload_n hX dX0_feed_36 0 rfl 37 rfl ?_
    refine jj_iload hX dX0_feed_37 5 rfl 39 rfl ?_
    refine kxw0_lay hX hY k1 q617 (Nat.le_of_ble_eq_true rfl) (Nat.le_of_ble_eq_true rfl) (Nat.zero_le _) (Nat.zero_le _) (Nat.le_of_ble_eq_true rfl) dX0_feed_39 42 rfl h (fun u39 h => ?_)
    refine jj_aload_n hX dX0_feed_42 0 rfl 43 rfl ?_
    refine xg0_3 hX hY k1 dX0_feed_43 q414 46 rfl ?_
    exact jj_reti (post := (fun (r : Int32) (w : XS) => Post r w)) (u := u39) hX dX0_feed_46 (Nat.le_refl 0) (Nat.le_refl 0) jx_hB h
  · have h := h.2 c10
    refine jj_iconst hX dX0_feed_13 ci_m1 14 rfl ?_
    exact jj_reti (post := (fun (r : Int32) (w : XS) => Post r w)) (u := u) hX dX0_feed_14 (Nat.le_refl 0) (Nat.le_refl 0) jx_hB h
theorem hd_xw0_feed : yX0_feed.cls ≠ "java/lang/invoke/MethodHandle" ∧ yX0_feed.cls ≠ "java/lang/invoke/VarHandle" ∧ (parseMethodDescriptor yX0_feed.desc).map (fun d => d.parameters.length) = some 5 := by decide +kernel
theorem kxw0_feed {X : JC} {A : Nat → Prop} {Q : State → Prop} {nL k n pc : Nat} {lv : List (Nat × Value)} {st : List Value} {own : String} {cc : ByteArray} {ret : Option FieldType} {F LL mc ms ix : Nat} {D : va_G} {dA aK aV : Nat → Nat} {K : XK} {u : XS} {x0 : Nat} {x1 : Int32} {x2 : Int32} {x3 : Int32} {x4 : Int32} {x5 : Int32} {Post : Int32 → XS → Prop} (hX : JX X own cc nL ret F LL mc ms) (hY : JY X D dA aK aV A) (h1a : K x0 = (1, 0)) (hlk : (Cond.methodLink own ix yX0_feed) ∈ lw_all) (hF : 1 + 1 ≤ F) (hL : 8 + (6 + 11) + 22 ≤ LL) (hk : k ≤ mc) (hk2 : n ≤ ms) (hw : (st.map fun v => v.category).sum ≤ 8) (d : decode cc pc = .ok (.invokevirtual ix, 3)) (q : Nat) (hq : pc + 3 = q) (h : xw0_feed x0 x1 x2 x3 x4 x5 K u  Post) (kk : ∀ (r : Int32) (u2 : XS), Post r u2 → JJ X A Q nL (XP D dA A K u2) k n q lv (.int r :: st)) : JJ X A Q nL (XP D dA A K u) k n pc lv (.int x5 :: .int x4 :: .int x3 :: .int x2 :: .int x1 :: .ref x0 :: st) :=
  jx_callVi (na := 5) (As := [.int x1, .int x2, .int x3, .int x4, .int x5]) hX hY jf0 h1a (fun sz => mxw0_feed (jj_l X) hY.2.2.2.2 D dA aK aV x0 x1 x2 x3 x4 x5 K u  Post h sz) hlk q614 q615 q120 q616 ⟨rfl, hd_xw0_feed⟩ rfl rfl hw hF hL hk hk2 d q hq kk
theorem knxw0_feed {X : JC} {A : Nat → Prop} {Q : State → Prop} {nL k n pc : Nat} {lv : List (Nat × Value)} {st : List Value} {own : String} {cc : ByteArray} {ret : Option FieldType} {F LL mc ms ix : Nat} {D : va_G} {dA aK aV : Nat → Nat} {K : XK} {u : XS} {x0 : Nat} {x1 : Int32} {x2 : Int32} {x3 : Int32} {x4 : Int32} {x5 : Int32} {host : String} {Post : Int32 → XS → Prop} (hX : JX X own cc nL ret F LL mc ms) (hY : JY X D dA aK aV A) (h1a : K x0 = (1, 0)) (hlk : (Cond.methodLinkNest own ix yX0_feed host) ∈ jx_nest) (hF : 1 + 1 ≤ F) (hL : 8 + (6 + 11) + 22 ≤ LL) (hk : k ≤ mc) (hk2 : n ≤ ms) (hw : (st.map fun v => v.category).sum ≤ 8) (d : decode cc pc = .ok (.invokevirtual ix, 3)) (q : Nat) (hq : pc + 3 = q) (h : xw0_feed x0 x1 x2 x3 x4 x5 K u  Post) (kk : ∀ (r : Int32) (u2 : XS), Post r u2 → JJ X A Q nL (XP D dA A K u2) k n q lv (.int r :: st)) : JJ X A Q nL (XP D dA A K u) k n pc lv (.int x5 :: .int x4 :: .int x3 :: .int x2 :: .int x1 :: .ref x0 :: st) :=
  jx_callNi (na := 5) (As := [.int x1, .int x2, .int x3, .int x4, .int x5]) hX hY jf0 h1a (fun sz => mxw0_feed (jj_l X) hY.2.2.2.2 D dA aK aV x0 x1 x2 x3 x4 x5 K u  Post h sz) hlk q614 q615 q120 q616 hd_xw0_feed rfl rfl hw hF hL hk hk2 d q hq kk
def xw0_opens_B23 (Post : Int32 → XS → Prop) (K : XK) (x0 : Nat) (s0 : Int32) (s1 : Nat) (u : XS) : Prop :=
  K s1 = (1, 0) ∧
  ∀ u23 : XS, u23 = xsi u s1 7 s0 →
  K x0 = (1, 0) ∧
  ((xi u23 x0 7) ≤ 0 →
    ∀ u37 : XS, u37 = xsi u23 x0 3 (0 : Int32) →
    ∀ u42 : XS, u42 = xsi u37 x0 4 (0 : Int32) →
    ∀ u47 : XS, u47 = xsi u42 x0 5 (-1 : Int32) →
    Post (1 : Int32) u47) ∧
  (¬ (xi u23 x0 7) ≤ 0 →
    Post (0 : Int32) u23)
/-- RaisedPress.opens(II)Z -/
def xw0_opens (x0 : Nat) (x1 : Int32) (x2 : Int32) (K : XK) (u : XS) (Post : Int32 → XS → Prop) : Prop :=
  (x1 < 0 →
    xw0_opens_B23 Post K x0 (1 : Int32) x0 u) ∧
  (¬ x1 < 0 →
    K x0 = (1, 0) ∧
    ((xi u x0 3) < x1 →
      xw0_opens_B23 Post K x0 (1 : Int32) x0 u) ∧
    (¬ (xi u x0 3) < x1 →
      (x1 ≤ x2 →
        xw0_opens_B23 Post K x0 (0 : Int32) x0 u) ∧
      (¬ x1 ≤ x2 →
        xw0_opens_B23 Post K x0 (1 : Int32) x0 u)))
set_option maxHeartbeats 4000000 in
set_option maxRecDepth 100000 in
theorem txw0_opens_B23 {X : JC} {D : va_G} {dA aK aV : Nat → Nat} {sz : Nat} {K : XK} {Post : Int32 → XS → Prop} {x0 : Nat} {s0 : Int32} {s1 : Nat} {u : XS} (hX : JX X yX0_opens.cls cX0_opens 3 (Option.some Jvm.ClassFile.FieldType.boolean) 0 0 0 0) (hY : JY X D dA aK aV (AX K sz)) (h : xw0_opens_B23 Post K x0 s0 s1 u) : JJ X (AX K sz) (jj_Q X (va_Qi (fun (r : Int32) (w : XS) => Post r w ∧ jj_z r) (jx_B D dA K) (AX K sz)) 0 0 (AX K sz)) 3 (XP D dA (AX K sz) K u) 0 0 23 [(0, .ref x0)] [.int s0, .ref s1] := by
  unfold xw0_opens_B23 at h
  obtain ⟨k23, h⟩ := h
  refine xp0_7 hX hY k23 dX0_opens_23 q418 26 rfl (fun u23 e23 => ?_)
  have h := h u23 e23
  refine jj_aload_n hX dX0_opens_26 0 rfl 27 rfl ?_
  obtain ⟨k27, h⟩ := h
  refine xg0_7 hX hY k27 dX0_opens_27 q418 30 rfl ?_
  refine jj_if_le hX dX0_opens_30 35 33 (by decide) rfl (fun c30 => ?_) (fun c30 => ?_)
  · have h := h.1 c30
    refine jj_aload_n hX dX0_opens_35 0 rfl 36 rfl ?_
    refine jj_iconst hX dX0_opens_36 ci_0 37 rfl ?_
    refine xp0_3 hX hY k27 dX0_opens_37 q414 40 rfl (fun u37 e37 => ?_)
    have h := h u37 e37
    refine jj_aload_n hX dX0_opens_40 0 rfl 41 rfl ?_
    refine jj_iconst hX dX0_opens_41 ci_0 42 rfl ?_
    refine xp0_4 hX hY k27 dX0_opens_42 q415 45 rfl (fun u42 e42 => ?_)
    have h := h u42 e42
    refine jj_aload_n hX dX0_opens_45 0 rfl 46 rfl ?_
    refine jj_iconst hX dX0_opens_46 ci_m1 47 rfl ?_
    refine xp0_5 hX hY k27 dX0_opens_47 q416 50 rfl (fun u47 e47 => ?_)
    have h := h u47 e47
    refine jj_iconst hX dX0_opens_50 ci_1 51 rfl ?_
    exact jj_retz (post := (fun (r : Int32) (w : XS) => Post r w)) (u := u47) hX dX0_opens_51 (Nat.le_refl 0) (Nat.le_refl 0) jx_hB jj_z1 h
  · have h := h.2 c30
    refine jj_iconst hX dX0_opens_33 ci_0 34 rfl ?_
    exact jj_retz (post := (fun (r : Int32) (w : XS) => Post r w)) (u := u23) hX dX0_opens_34 (Nat.le_refl 0) (Nat.le_refl 0) jx_hB jj_z0 h
set_option maxHeartbeats 4000000 in
set_option maxRecDepth 100000 in
theorem mxw0_opens (l : Launch) (hfl : l.stackTraces = false) (D : va_G) (dA aK aV : Nat → Nat) (x0 : Nat) (x1 : Int32) (x2 : Int32) (K : XK) (u : XS) (Post : Int32 → XS → Prop) (h : xw0_opens x0 x1 x2 K u Post) (sz : Nat) : Met l yX0_opens (ws_ yX0_opens cX0_opens 3 (Option.some Jvm.ClassFile.FieldType.boolean)) (jx_rm 0 0 0 0) (jx_Pc D dA aK aV K u sz [.ref x0, .int x1, .int x2]) (va_Qi (fun (r : Int32) (w : XS) => Post r w ∧ jj_z r) (jx_B D dA K) (AX K sz)) 0 0 (AX K sz) := by
  refine jx_start hfl [.ref x0, .int x1, .int x2] [(0, .ref x0), (1, .int x1), (2, .int x2)] (by decide) (Nat.le_of_ble_eq_true rfl) rfl (fun X hX hY hin => ?_)
  unfold xw0_opens at h
  refine jj_aload_n hX dX0_opens_0 0 rfl 1 rfl ?_
  refine jj_iload_n hX dX0_opens_1 1 rfl 2 rfl ?_
  refine jj_if_lt hX dX0_opens_2 18 5 (by decide) rfl (fun c2 => ?_) (fun c2 => ?_)
  · have h := h.1 c2
    refine jj_iconst hX dX0_opens_18 ci_1 19 rfl ?_
    refine jj_goto hX dX0_opens_19 23 (by decide) ?_
    refine jj_sub (lv2 := [(0, .ref x0)]) [0] rfl ?_
    exact txw0_opens_B23 hX hY h
  · have h := h.2 c2
    refine jj_iload_n hX dX0_opens_5 1 rfl 6 rfl ?_
    refine jj_aload_n hX dX0_opens_6 0 rfl 7 rfl ?_
    obtain ⟨k7, h⟩ := h
    refine xg0_3 hX hY k7 dX0_opens_7 q414 10 rfl ?_
    refine jj_icmp_gt hX dX0_opens_10 18 13 (by decide) rfl (fun c10 => ?_) (fun c10 => ?_)
    · have h := h.1 c10
      refine jj_iconst hX dX0_opens_18 ci_1 19 rfl ?_
      refine jj_goto hX dX0_opens_19 23 (by decide) ?_
      refine jj_sub (lv2 := [(0, .ref x0)]) [0] rfl ?_
      exact txw0_opens_B23 hX hY h
    · have h := h.2 c10
      refine jj_iload_n hX dX0_opens_13 1 rfl 14 rfl ?_
      refine jj_iload_n hX dX0_opens_14 2 rfl 15 rfl ?_
      refine jj_icmp_le hX dX0_opens_15 22 18 (by decide) rfl (fun c15 => ?_) (fun c15 => ?_)
      · have h := h.1 c15
        refine jj_iconst hX dX0_opens_22 ci_0 23 rfl ?_
        refine jj_sub (lv2 := [(0, .ref x0)]) [0] rfl ?_
        exact txw0_opens_B23 hX hY h
      · have h := h.2 c15
        refine jj_iconst hX dX0_opens_18 ci_1 19 rfl ?_
        refine jj_goto hX dX0_opens_19 23 (by decide) ?_
        refine jj_sub (lv2 := [(0, .ref x0)]) [0] rfl ?_
        exact txw0_opens_B23 hX hY h
theorem hd_xw0_opens : yX0_opens.cls ≠ "java/lang/invoke/MethodHandle" ∧ yX0_opens.cls ≠ "java/lang/invoke/VarHandle" ∧ (parseMethodDescriptor yX0_opens.desc).map (fun d => d.parameters.length) = some 2 := by decide +kernel
theorem kxw0_opens {X : JC} {A : Nat → Prop} {Q : State → Prop} {nL k n pc : Nat} {lv : List (Nat × Value)} {st : List Value} {own : String} {cc : ByteArray} {ret : Option FieldType} {F LL mc ms ix : Nat} {D : va_G} {dA aK aV : Nat → Nat} {K : XK} {u : XS} {x0 : Nat} {x1 : Int32} {x2 : Int32} {Post : Int32 → XS → Prop} (hX : JX X own cc nL ret F LL mc ms) (hY : JY X D dA aK aV A) (h1a : K x0 = (1, 0)) (hlk : (Cond.methodLink own ix yX0_opens) ∈ lw_all) (hF : 0 + 1 ≤ F) (hL : 8 + (3 + 11) + 0 ≤ LL) (hk : k ≤ mc) (hk2 : n ≤ ms) (hw : (st.map fun v => v.category).sum ≤ 8) (d : decode cc pc = .ok (.invokevirtual ix, 3)) (q : Nat) (hq : pc + 3 = q) (h : xw0_opens x0 x1 x2 K u  Post) (kk : ∀ (r : Int32) (u2 : XS), jj_z r → Post r u2 → JJ X A Q nL (XP D dA A K u2) k n q lv (.int r :: st)) : JJ X A Q nL (XP D dA A K u) k n pc lv (.int x2 :: .int x1 :: .ref x0 :: st) :=
  jx_callVz (na := 2) (As := [.int x1, .int x2]) hX hY jf0 h1a (fun sz => mxw0_opens (jj_l X) hY.2.2.2.2 D dA aK aV x0 x1 x2 K u  Post h sz) hlk q627 qs6 q120 q628 ⟨rfl, hd_xw0_opens⟩ rfl rfl hw hF hL hk hk2 d q hq kk
theorem knxw0_opens {X : JC} {A : Nat → Prop} {Q : State → Prop} {nL k n pc : Nat} {lv : List (Nat × Value)} {st : List Value} {own : String} {cc : ByteArray} {ret : Option FieldType} {F LL mc ms ix : Nat} {D : va_G} {dA aK aV : Nat → Nat} {K : XK} {u : XS} {x0 : Nat} {x1 : Int32} {x2 : Int32} {host : String} {Post : Int32 → XS → Prop} (hX : JX X own cc nL ret F LL mc ms) (hY : JY X D dA aK aV A) (h1a : K x0 = (1, 0)) (hlk : (Cond.methodLinkNest own ix yX0_opens host) ∈ jx_nest) (hF : 0 + 1 ≤ F) (hL : 8 + (3 + 11) + 0 ≤ LL) (hk : k ≤ mc) (hk2 : n ≤ ms) (hw : (st.map fun v => v.category).sum ≤ 8) (d : decode cc pc = .ok (.invokevirtual ix, 3)) (q : Nat) (hq : pc + 3 = q) (h : xw0_opens x0 x1 x2 K u  Post) (kk : ∀ (r : Int32) (u2 : XS), jj_z r → Post r u2 → JJ X A Q nL (XP D dA A K u2) k n q lv (.int r :: st)) : JJ X A Q nL (XP D dA A K u) k n pc lv (.int x2 :: .int x1 :: .ref x0 :: st) :=
  jx_callNz (na := 2) (As := [.int x1, .int x2]) hX hY jf0 h1a (fun sz => mxw0_opens (jj_l X) hY.2.2.2.2 D dA aK aV x0 x1 x2 K u  Post h sz) hlk q627 qs6 q120 q628 hd_xw0_opens rfl rfl hw hF hL hk hk2 d q hq kk
/-- RaisedPress.isBlank(I)Z -/
def xs_isBlank (x0 : Int32) (Post : Int32 → Prop) : Prop :=
  (x0 = (10 : Int32) →
    Post (1 : Int32)) ∧
  (¬ x0 = (10 : Int32) →
    (¬ x0 = (32 : Int32) →
      Post (0 : Int32)) ∧
    (x0 = (32 : Int32) →
      Post (1 : Int32)))
set_option maxHeartbeats 4000000 in
set_option maxRecDepth 100000 in
theorem mxs_isBlank (l : Launch) (x0 : Int32) (Post : Int32 → Prop) (h : xs_isBlank x0 Post) : Met l yX0_isBlank (ws_ yX0_isBlank cX0_isBlank 1 (Option.some Jvm.ClassFile.FieldType.boolean)) (jm_rm 0 0) (js_Pc [.int x0]) (va_Qi (fun r (_ : Unit) => Post r ∧ jj_z r) js_B js_A) 0 0 js_A := by
  refine js_start [.int x0] [(0, .int x0)] (by decide) (Nat.le_of_ble_eq_true rfl) rfl (fun X hX => ?_)
  unfold xs_isBlank at h
  refine jj_iload_n hX dX0_isBlank_0 0 rfl 1 rfl ?_
  refine jj_bipush hX dX0_isBlank_1 cb_10 3 rfl ?_
  refine jj_icmp_eq hX dX0_isBlank_3 12 6 (by decide) rfl (fun c3 => ?_) (fun c3 => ?_)
  · have h := h.1 c3
    refine jj_iconst hX dX0_isBlank_12 ci_1 13 rfl ?_
    refine jj_goto hX dX0_isBlank_13 17 (by decide) ?_
    exact jj_retz (post := (fun r (_ : Unit) => Post r)) (u := ()) hX dX0_isBlank_17 (Nat.le_refl 0) (Nat.le_refl 0) js_hB jj_z1 h
  · have h := h.2 c3
    refine jj_iload_n hX dX0_isBlank_6 0 rfl 7 rfl ?_
    refine jj_bipush hX dX0_isBlank_7 cb_32 9 rfl ?_
    refine jj_icmp_ne hX dX0_isBlank_9 16 12 (by decide) rfl (fun c9 => ?_) (fun c9 => ?_)
    · have h := h.1 c9
      refine jj_iconst hX dX0_isBlank_16 ci_0 17 rfl ?_
      exact jj_retz (post := (fun r (_ : Unit) => Post r)) (u := ()) hX dX0_isBlank_17 (Nat.le_refl 0) (Nat.le_refl 0) js_hB jj_z0 h
    · have h := h.2 c9
      refine jj_iconst hX dX0_isBlank_12 ci_1 13 rfl ?_
      refine jj_goto hX dX0_isBlank_13 17 (by decide) ?_
      exact jj_retz (post := (fun r (_ : Unit) => Post r)) (u := ()) hX dX0_isBlank_17 (Nat.le_refl 0) (Nat.le_refl 0) js_hB jj_z1 h
theorem hd_xs_isBlank : yX0_isBlank.cls ≠ "java/lang/invoke/MethodHandle" ∧ yX0_isBlank.cls ≠ "java/lang/invoke/VarHandle" ∧ (parseMethodDescriptor yX0_isBlank.desc).map (fun d => d.parameters.length) = some 1 := by decide +kernel
theorem kxs_isBlank {X : JC} {A : Nat → Prop} {Q : State → Prop} {P : Heap → Prop} {nL k n pc : Nat} {lv : List (Nat × Value)} {st : List Value} {own : String} {cc : ByteArray} {ret : Option FieldType} {F LL mc ms ix : Nat} {x0 : Int32} {Post : Int32 → Prop} (hX : JX X own cc nL ret F LL mc ms) (hKP : jj_Keeps P) (hlk : (Cond.methodLink own ix yX0_isBlank) ∈ lw_all) (hF : 0 + 1 ≤ F) (hL : 8 + (1 + 11) + 0 ≤ LL) (hk : k ≤ mc) (hk2 : n ≤ ms) (hw : (st.map fun v => v.category).sum ≤ 8) (d : decode cc pc = .ok (.invokestatic ix, 3)) (q : Nat) (hq : pc + 3 = q) (h : xs_isBlank x0 Post) (kk : ∀ r : Int32, jj_z r → Post r → JJ X A Q nL P k n q lv (.int r :: st)) : JJ X A Q nL P k n pc lv (.int x0 :: st) :=
  js_callz (na := 1) (As := [.int x0]) hX hKP (mxs_isBlank (jj_l X) x0 Post h) hlk q642 q120 q643 hd_xs_isBlank rfl rfl hw hF hL hk hk2 d q hq kk
theorem knxs_isBlank {X : JC} {A : Nat → Prop} {Q : State → Prop} {P : Heap → Prop} {nL k n pc : Nat} {lv : List (Nat × Value)} {st : List Value} {own host : String} {cc : ByteArray} {ret : Option FieldType} {F LL mc ms ix : Nat} {x0 : Int32} {Post : Int32 → Prop} (hX : JX X own cc nL ret F LL mc ms) (hKP : jj_Keeps P) (hN : JN (jj_s X)) (hlk : (Cond.methodLinkNest own ix yX0_isBlank host) ∈ jx_nest) (hF : 0 + 1 ≤ F) (hL : 8 + (1 + 11) + 0 ≤ LL) (hk : k ≤ mc) (hk2 : n ≤ ms) (hw : (st.map fun v => v.category).sum ≤ 8) (d : decode cc pc = .ok (.invokestatic ix, 3)) (q : Nat) (hq : pc + 3 = q) (h : xs_isBlank x0 Post) (kk : ∀ r : Int32, jj_z r → Post r → JJ X A Q nL P k n q lv (.int r :: st)) : JJ X A Q nL P k n pc lv (.int x0 :: st) :=
  js_callNz (na := 1) (As := [.int x0]) hX hKP hN (mxs_isBlank (jj_l X) x0 Post h) hlk q642 q120 q643 hd_xs_isBlank rfl rfl hw hF hL hk hk2 d q hq kk
/-- RaisedPress.isSmall(I)Z -/
def xs_isSmall (x0 : Int32) (Post : Int32 → Prop) : Prop :=
  (x0 < (97 : Int32) →
    Post (0 : Int32)) ∧
  (¬ x0 < (97 : Int32) →
    ((122 : Int32) < x0 →
      Post (0 : Int32)) ∧
    (¬ (122 : Int32) < x0 →
      Post (1 : Int32)))
set_option maxHeartbeats 4000000 in
set_option maxRecDepth 100000 in
theorem mxs_isSmall (l : Launch) (x0 : Int32) (Post : Int32 → Prop) (h : xs_isSmall x0 Post) : Met l yX0_isSmall (ws_ yX0_isSmall cX0_isSmall 1 (Option.some Jvm.ClassFile.FieldType.boolean)) (jm_rm 0 0) (js_Pc [.int x0]) (va_Qi (fun r (_ : Unit) => Post r ∧ jj_z r) js_B js_A) 0 0 js_A := by
  refine js_start [.int x0] [(0, .int x0)] (by decide) (Nat.le_of_ble_eq_true rfl) rfl (fun X hX => ?_)
  unfold xs_isSmall at h
  refine jj_iload_n hX dX0_isSmall_0 0 rfl 1 rfl ?_
  refine jj_bipush hX dX0_isSmall_1 cb_97 3 rfl ?_
  refine jj_icmp_lt hX dX0_isSmall_3 16 6 (by decide) rfl (fun c3 => ?_) (fun c3 => ?_)
  · have h := h.1 c3
    refine jj_iconst hX dX0_isSmall_16 ci_0 17 rfl ?_
    exact jj_retz (post := (fun r (_ : Unit) => Post r)) (u := ()) hX dX0_isSmall_17 (Nat.le_refl 0) (Nat.le_refl 0) js_hB jj_z0 h
  · have h := h.2 c3
    refine jj_iload_n hX dX0_isSmall_6 0 rfl 7 rfl ?_
    refine jj_bipush hX dX0_isSmall_7 cb_122 9 rfl ?_
    refine jj_icmp_gt hX dX0_isSmall_9 16 12 (by decide) rfl (fun c9 => ?_) (fun c9 => ?_)
    · have h := h.1 c9
      refine jj_iconst hX dX0_isSmall_16 ci_0 17 rfl ?_
      exact jj_retz (post := (fun r (_ : Unit) => Post r)) (u := ()) hX dX0_isSmall_17 (Nat.le_refl 0) (Nat.le_refl 0) js_hB jj_z0 h
    · have h := h.2 c9
      refine jj_iconst hX dX0_isSmall_12 ci_1 13 rfl ?_
      refine jj_goto hX dX0_isSmall_13 17 (by decide) ?_
      exact jj_retz (post := (fun r (_ : Unit) => Post r)) (u := ()) hX dX0_isSmall_17 (Nat.le_refl 0) (Nat.le_refl 0) js_hB jj_z1 h
theorem hd_xs_isSmall : yX0_isSmall.cls ≠ "java/lang/invoke/MethodHandle" ∧ yX0_isSmall.cls ≠ "java/lang/invoke/VarHandle" ∧ (parseMethodDescriptor yX0_isSmall.desc).map (fun d => d.parameters.length) = some 1 := by decide +kernel
theorem kxs_isSmall {X : JC} {A : Nat → Prop} {Q : State → Prop} {P : Heap → Prop} {nL k n pc : Nat} {lv : List (Nat × Value)} {st : List Value} {own : String} {cc : ByteArray} {ret : Option FieldType} {F LL mc ms ix : Nat} {x0 : Int32} {Post : Int32 → Prop} (hX : JX X own cc nL ret F LL mc ms) (hKP : jj_Keeps P) (hlk : (Cond.methodLink own ix yX0_isSmall) ∈ lw_all) (hF : 0 + 1 ≤ F) (hL : 8 + (1 + 11) + 0 ≤ LL) (hk : k ≤ mc) (hk2 : n ≤ ms) (hw : (st.map fun v => v.category).sum ≤ 8) (d : decode cc pc = .ok (.invokestatic ix, 3)) (q : Nat) (hq : pc + 3 = q) (h : xs_isSmall x0 Post) (kk : ∀ r : Int32, jj_z r → Post r → JJ X A Q nL P k n q lv (.int r :: st)) : JJ X A Q nL P k n pc lv (.int x0 :: st) :=
  js_callz (na := 1) (As := [.int x0]) hX hKP (mxs_isSmall (jj_l X) x0 Post h) hlk q649 q120 q650 hd_xs_isSmall rfl rfl hw hF hL hk hk2 d q hq kk
theorem knxs_isSmall {X : JC} {A : Nat → Prop} {Q : State → Prop} {P : Heap → Prop} {nL k n pc : Nat} {lv : List (Nat × Value)} {st : List Value} {own host : String} {cc : ByteArray} {ret : Option FieldType} {F LL mc ms ix : Nat} {x0 : Int32} {Post : Int32 → Prop} (hX : JX X own cc nL ret F LL mc ms) (hKP : jj_Keeps P) (hN : JN (jj_s X)) (hlk : (Cond.methodLinkNest own ix yX0_isSmall host) ∈ jx_nest) (hF : 0 + 1 ≤ F) (hL : 8 + (1 + 11) + 0 ≤ LL) (hk : k ≤ mc) (hk2 : n ≤ ms) (hw : (st.map fun v => v.category).sum ≤ 8) (d : decode cc pc = .ok (.invokestatic ix, 3)) (q : Nat) (hq : pc + 3 = q) (h : xs_isSmall x0 Post) (kk : ∀ r : Int32, jj_z r → Post r → JJ X A Q nL P k n q lv (.int r :: st)) : JJ X A Q nL P k n pc lv (.int x0 :: st) :=
  js_callNz (na := 1) (As := [.int x0]) hX hKP hN (mxs_isSmall (jj_l X) x0 Post h) hlk q649 q120 q650 hd_xs_isSmall rfl rfl hw hF hL hk hk2 d q hq kk
/-- RaisedPress.isFigure(I)Z -/
def xs_isFigure (x0 : Int32) (Post : Int32 → Prop) : Prop :=
  (x0 < (48 : Int32) →
    Post (0 : Int32)) ∧
  (¬ x0 < (48 : Int32) →
    ((57 : Int32) < x0 →
      Post (0 : Int32)) ∧
    (¬ (57 : Int32) < x0 →
      Post (1 : Int32)))
set_option maxHeartbeats 4000000 in
set_option maxRecDepth 100000 in
theorem mxs_isFigure (l : Launch) (x0 : Int32) (Post : Int32 → Prop) (h : xs_isFigure x0 Post) : Met l yX0_isFigure (ws_ yX0_isFigure cX0_isFigure 1 (Option.some Jvm.ClassFile.FieldType.boolean)) (jm_rm 0 0) (js_Pc [.int x0]) (va_Qi (fun r (_ : Unit) => Post r ∧ jj_z r) js_B js_A) 0 0 js_A := by
  refine js_start [.int x0] [(0, .int x0)] (by decide) (Nat.le_of_ble_eq_true rfl) rfl (fun X hX => ?_)
  unfold xs_isFigure at h
  refine jj_iload_n hX dX0_isFigure_0 0 rfl 1 rfl ?_
  refine jj_bipush hX dX0_isFigure_1 cb_48 3 rfl ?_
  refine jj_icmp_lt hX dX0_isFigure_3 16 6 (by decide) rfl (fun c3 => ?_) (fun c3 => ?_)
  · have h := h.1 c3
    refine jj_iconst hX dX0_isFigure_16 ci_0 17 rfl ?_
    exact jj_retz (post := (fun r (_ : Unit) => Post r)) (u := ()) hX dX0_isFigure_17 (Nat.le_refl 0) (Nat.le_refl 0) js_hB jj_z0 h
  · have h := h.2 c3
    refine jj_iload_n hX dX0_isFigure_6 0 rfl 7 rfl ?_
    refine jj_bipush hX dX0_isFigure_7 cb_57 9 rfl ?_
    refine jj_icmp_gt hX dX0_isFigure_9 16 12 (by decide) rfl (fun c9 => ?_) (fun c9 => ?_)
    · have h := h.1 c9
      refine jj_iconst hX dX0_isFigure_16 ci_0 17 rfl ?_
      exact jj_retz (post := (fun r (_ : Unit) => Post r)) (u := ()) hX dX0_isFigure_17 (Nat.le_refl 0) (Nat.le_refl 0) js_hB jj_z0 h
    · have h := h.2 c9
      refine jj_iconst hX dX0_isFigure_12 ci_1 13 rfl ?_
      refine jj_goto hX dX0_isFigure_13 17 (by decide) ?_
      exact jj_retz (post := (fun r (_ : Unit) => Post r)) (u := ()) hX dX0_isFigure_17 (Nat.le_refl 0) (Nat.le_refl 0) js_hB jj_z1 h
theorem hd_xs_isFigure : yX0_isFigure.cls ≠ "java/lang/invoke/MethodHandle" ∧ yX0_isFigure.cls ≠ "java/lang/invoke/VarHandle" ∧ (parseMethodDescriptor yX0_isFigure.desc).map (fun d => d.parameters.length) = some 1 := by decide +kernel
theorem kxs_isFigure {X : JC} {A : Nat → Prop} {Q : State → Prop} {P : Heap → Prop} {nL k n pc : Nat} {lv : List (Nat × Value)} {st : List Value} {own : String} {cc : ByteArray} {ret : Option FieldType} {F LL mc ms ix : Nat} {x0 : Int32} {Post : Int32 → Prop} (hX : JX X own cc nL ret F LL mc ms) (hKP : jj_Keeps P) (hlk : (Cond.methodLink own ix yX0_isFigure) ∈ lw_all) (hF : 0 + 1 ≤ F) (hL : 8 + (1 + 11) + 0 ≤ LL) (hk : k ≤ mc) (hk2 : n ≤ ms) (hw : (st.map fun v => v.category).sum ≤ 8) (d : decode cc pc = .ok (.invokestatic ix, 3)) (q : Nat) (hq : pc + 3 = q) (h : xs_isFigure x0 Post) (kk : ∀ r : Int32, jj_z r → Post r → JJ X A Q nL P k n q lv (.int r :: st)) : JJ X A Q nL P k n pc lv (.int x0 :: st) :=
  js_callz (na := 1) (As := [.int x0]) hX hKP (mxs_isFigure (jj_l X) x0 Post h) hlk q656 q120 q657 hd_xs_isFigure rfl rfl hw hF hL hk hk2 d q hq kk
theorem knxs_isFigure {X : JC} {A : Nat → Prop} {Q : State → Prop} {P : Heap → Prop} {nL k n pc : Nat} {lv : List (Nat × Value)} {st : List Value} {own host : String} {cc : ByteArray} {ret : Option FieldType} {F LL mc ms ix : Nat} {x0 : Int32} {Post : Int32 → Prop} (hX : JX X own cc nL ret F LL mc ms) (hKP : jj_Keeps P) (hN : JN (jj_s X)) (hlk : (Cond.methodLinkNest own ix yX0_isFigure host) ∈ jx_nest) (hF : 0 + 1 ≤ F) (hL : 8 + (1 + 11) + 0 ≤ LL) (hk : k ≤ mc) (hk2 : n ≤ ms) (hw : (st.map fun v => v.category).sum ≤ 8) (d : decode cc pc = .ok (.invokestatic ix, 3)) (q : Nat) (hq : pc + 3 = q) (h : xs_isFigure x0 Post) (kk : ∀ r : Int32, jj_z r → Post r → JJ X A Q nL P k n q lv (.int r :: st)) : JJ X A Q nL P k n pc lv (.int x0 :: st) :=
  js_callNz (na := 1) (As := [.int x0]) hX hKP hN (mxs_isFigure (jj_l X) x0 Post h) hlk q656 q120 q657 hd_xs_isFigure rfl rfl hw hF hL hk hk2 d q hq kk
/-- RaisedPress.faulty(LRaisedPress$Bad;)I -/
def xw0_faulty (x0 : Nat) (x1 : Nat) (K : XK) (u : XS) (Post : Int32 → XS → Prop) : Prop :=
  K x1 = (1, 2) ∧
  K x0 = (1, 0) ∧
  ∀ u5 : XS, u5 = xsi u x0 4 (xi u x1 6) →
  ∀ u13 : XS, u13 = xsi u5 x0 5 (xi u5 x1 7) →
  ∀ u19 : XS, u19 = xsi u13 x0 7 (9 : Int32) →
  Post (-1 : Int32) u19
set_option maxHeartbeats 4000000 in
set_option maxRecDepth 100000 in
theorem mxw0_faulty (l : Launch) (hfl : l.stackTraces = false) (D : va_G) (dA aK aV : Nat → Nat) (x0 : Nat) (x1 : Nat) (K : XK) (u : XS) (Post : Int32 → XS → Prop) (h : xw0_faulty x0 x1 K u Post) (sz : Nat) : Met l yX0_faulty (ws_ yX0_faulty cX0_faulty 2 (Option.some Jvm.ClassFile.FieldType.int)) (jx_rm 0 0 0 0) (jx_Pc D dA aK aV K u sz [.ref x0, .ref x1]) (va_Qi (fun (r : Int32) (w : XS) => Post r w) (jx_B D dA K) (AX K sz)) 0 0 (AX K sz) := by
  refine jx_start hfl [.ref x0, .ref x1] [(0, .ref x0), (1, .ref x1)] (by decide) (Nat.le_of_ble_eq_true rfl) rfl (fun X hX hY hin => ?_)
  unfold xw0_faulty at h
  refine jj_aload_n hX dX0_faulty_0 0 rfl 1 rfl ?_
  refine jj_aload_n hX dX0_faulty_1 1 rfl 2 rfl ?_
  obtain ⟨k2, h⟩ := h
  refine xgn2_6 hX hY k2 dX0_faulty_2 nq219 5 rfl ?_
  obtain ⟨k5, h⟩ := h
  refine xp0_4 hX hY k5 dX0_faulty_5 q415 8 rfl (fun u5 e5 => ?_)
  have h := h u5 e5
  refine jj_aload_n hX dX0_faulty_8 0 rfl 9 rfl ?_
  refine jj_aload_n hX dX0_faulty_9 1 rfl 10 rfl ?_
  refine xgn2_7 hX hY k2 dX0_faulty_10 nq221 13 rfl ?_
  refine xp0_5 hX hY k5 dX0_faulty_13 q416 16 rfl (fun u13 e13 => ?_)
  have h := h u13 e13
  refine jj_aload_n hX dX0_faulty_16 0 rfl 17 rfl ?_
  refine jj_bipush hX dX0_faulty_17 cb_9 19 rfl ?_
  refine xp0_7 hX hY k5 dX0_faulty_19 q418 22 rfl (fun u19 e19 => ?_)
  have h := h u19 e19
  refine jj_iconst hX dX0_faulty_22 ci_m1 23 rfl ?_
  exact jj_reti (post := (fun (r : Int32) (w : XS) => Post r w)) (u := u19) hX dX0_faulty_23 (Nat.le_refl 0) (Nat.le_refl 0) jx_hB h
theorem hd_xw0_faulty : yX0_faulty.cls ≠ "java/lang/invoke/MethodHandle" ∧ yX0_faulty.cls ≠ "java/lang/invoke/VarHandle" ∧ (parseMethodDescriptor yX0_faulty.desc).map (fun d => d.parameters.length) = some 1 := by decide +kernel
theorem kxw0_faulty {X : JC} {A : Nat → Prop} {Q : State → Prop} {nL k n pc : Nat} {lv : List (Nat × Value)} {st : List Value} {own : String} {cc : ByteArray} {ret : Option FieldType} {F LL mc ms ix : Nat} {D : va_G} {dA aK aV : Nat → Nat} {K : XK} {u : XS} {x0 : Nat} {x1 : Nat} {Post : Int32 → XS → Prop} (hX : JX X own cc nL ret F LL mc ms) (hY : JY X D dA aK aV A) (h1a : K x0 = (1, 0)) (hlk : (Cond.methodLink own ix yX0_faulty) ∈ lw_all) (hF : 0 + 1 ≤ F) (hL : 8 + (2 + 11) + 0 ≤ LL) (hk : k ≤ mc) (hk2 : n ≤ ms) (hw : (st.map fun v => v.category).sum ≤ 8) (d : decode cc pc = .ok (.invokevirtual ix, 3)) (q : Nat) (hq : pc + 3 = q) (h : xw0_faulty x0 x1 K u  Post) (kk : ∀ (r : Int32) (u2 : XS), Post r u2 → JJ X A Q nL (XP D dA A K u2) k n q lv (.int r :: st)) : JJ X A Q nL (XP D dA A K u) k n pc lv (.ref x1 :: .ref x0 :: st) :=
  jx_callVi (na := 1) (As := [.ref x1]) hX hY jf0 h1a (fun sz => mxw0_faulty (jj_l X) hY.2.2.2.2 D dA aK aV x0 x1 K u  Post h sz) hlk q869 qs18 q120 q870 ⟨rfl, hd_xw0_faulty⟩ rfl rfl hw hF hL hk hk2 d q hq kk
theorem knxw0_faulty {X : JC} {A : Nat → Prop} {Q : State → Prop} {nL k n pc : Nat} {lv : List (Nat × Value)} {st : List Value} {own : String} {cc : ByteArray} {ret : Option FieldType} {F LL mc ms ix : Nat} {D : va_G} {dA aK aV : Nat → Nat} {K : XK} {u : XS} {x0 : Nat} {x1 : Nat} {host : String} {Post : Int32 → XS → Prop} (hX : JX X own cc nL ret F LL mc ms) (hY : JY X D dA aK aV A) (h1a : K x0 = (1, 0)) (hlk : (Cond.methodLinkNest own ix yX0_faulty host) ∈ jx_nest) (hF : 0 + 1 ≤ F) (hL : 8 + (2 + 11) + 0 ≤ LL) (hk : k ≤ mc) (hk2 : n ≤ ms) (hw : (st.map fun v => v.category).sum ≤ 8) (d : decode cc pc = .ok (.invokevirtual ix, 3)) (q : Nat) (hq : pc + 3 = q) (h : xw0_faulty x0 x1 K u  Post) (kk : ∀ (r : Int32) (u2 : XS), Post r u2 → JJ X A Q nL (XP D dA A K u2) k n q lv (.int r :: st)) : JJ X A Q nL (XP D dA A K u) k n pc lv (.ref x1 :: .ref x0 :: st) :=
  jx_callNi (na := 1) (As := [.ref x1]) hX hY jf0 h1a (fun sz => mxw0_faulty (jj_l X) hY.2.2.2.2 D dA aK aV x0 x1 K u  Post h sz) hlk q869 qs18 q120 q870 hd_xw0_faulty rfl rfl hw hF hL hk hk2 d q hq kk
/-- RaisedPress.table()LRaisedPress$Table; -/
def xw0_table (x0 : Nat) (K : XK) (u : XS) (Post : Nat → XS → Prop) : Prop :=
  K x0 = (1, 0) ∧
  ∃ b4, (xr u x0 10) = some b4 ∧
  K b4 = (1, 4) ∧
  ∃ b7, (xr u b4 0) = some b7 ∧
  Post b7 u
set_option maxHeartbeats 4000000 in
set_option maxRecDepth 100000 in
theorem mxw0_table (l : Launch) (hfl : l.stackTraces = false) (D : va_G) (dA aK aV : Nat → Nat) (x0 : Nat) (K : XK) (u : XS) (Post : Nat → XS → Prop) (h : xw0_table x0 K u Post) (sz : Nat) : Met l yX0_table (ws_ yX0_table cX0_table 1 (Option.some (Jvm.ClassFile.FieldType.object "RaisedPress$Table"))) (jx_rm 0 0 0 0) (jx_Pc D dA aK aV K u sz [.ref x0]) (jx_Qr (fun (r : Nat) (w : XS) => Post r w) (jx_B D dA K) (AX K sz)) 0 0 (AX K sz) := by
  refine jx_start hfl [.ref x0] [(0, .ref x0)] (by decide) (Nat.le_of_ble_eq_true rfl) rfl (fun X hX hY hin => ?_)
  unfold xw0_table at h
  refine jj_aload_n hX dX0_table_0 0 rfl 1 rfl ?_
  obtain ⟨k1, h⟩ := h
  refine xg0_10 hX hY k1 dX0_table_1 q421 4 rfl ?_
  obtain ⟨b4, g4, h⟩ := h
  refine jj_st (st2 := [.ref b4]) (by rw [va_rf_some g4]) ?_
  obtain ⟨k4, h⟩ := h
  refine xgn4_0 hX hY k4 dX0_table_4 nq315 7 rfl ?_
  obtain ⟨b7, g7, h⟩ := h
  refine jj_st (st2 := [.ref b7]) (by rw [va_rf_some g7]) ?_
  exact jj_retr (post := (fun (r : Nat) (w : XS) => Post r w)) (u := u) hX (by first | exact Or.inl ⟨_, rfl⟩ | exact Or.inr ⟨_, rfl⟩) dX0_table_7 (Nat.le_refl 0) (Nat.le_refl 0) jx_hB h
theorem hd_xw0_table : yX0_table.cls ≠ "java/lang/invoke/MethodHandle" ∧ yX0_table.cls ≠ "java/lang/invoke/VarHandle" ∧ (parseMethodDescriptor yX0_table.desc).map (fun d => d.parameters.length) = some 0 := by decide +kernel
theorem kxw0_table {X : JC} {A : Nat → Prop} {Q : State → Prop} {nL k n pc : Nat} {lv : List (Nat × Value)} {st : List Value} {own : String} {cc : ByteArray} {ret : Option FieldType} {F LL mc ms ix : Nat} {D : va_G} {dA aK aV : Nat → Nat} {K : XK} {u : XS} {x0 : Nat} {Post : Nat → XS → Prop} (hX : JX X own cc nL ret F LL mc ms) (hY : JY X D dA aK aV A) (h1a : K x0 = (1, 0)) (hlk : (Cond.methodLink own ix yX0_table) ∈ lw_all) (hF : 0 + 1 ≤ F) (hL : 8 + (1 + 11) + 0 ≤ LL) (hk : k ≤ mc) (hk2 : n ≤ ms) (hw : (st.map fun v => v.category).sum ≤ 8) (d : decode cc pc = .ok (.invokevirtual ix, 3)) (q : Nat) (hq : pc + 3 = q) (h : xw0_table x0 K u  Post) (kk : ∀ (r : Nat) (u2 : XS), Post r u2 → JJ X A Q nL (XP D dA A K u2) k n q lv (.ref r :: st)) : JJ X A Q nL (XP D dA A K u) k n pc lv (.ref x0 :: st) :=
  jx_callVr (na := 0) (As := []) hX hY jf0 h1a (fun sz => mxw0_table (jj_l X) hY.2.2.2.2 D dA aK aV x0 K u  Post h sz) hlk q881 qs20 q120 q882 ⟨rfl, hd_xw0_table⟩ rfl rfl hw hF hL hk hk2 d q hq kk
theorem knxw0_table {X : JC} {A : Nat → Prop} {Q : State → Prop} {nL k n pc : Nat} {lv : List (Nat × Value)} {st : List Value} {own : String} {cc : ByteArray} {ret : Option FieldType} {F LL mc ms ix : Nat} {D : va_G} {dA aK aV : Nat → Nat} {K : XK} {u : XS} {x0 : Nat} {host : String} {Post : Nat → XS → Prop} (hX : JX X own cc nL ret F LL mc ms) (hY : JY X D dA aK aV A) (h1a : K x0 = (1, 0)) (hlk : (Cond.methodLinkNest own ix yX0_table host) ∈ jx_nest) (hF : 0 + 1 ≤ F) (hL : 8 + (1 + 11) + 0 ≤ LL) (hk : k ≤ mc) (hk2 : n ≤ ms) (hw : (st.map fun v => v.category).sum ≤ 8) (d : decode cc pc = .ok (.invokevirtual ix, 3)) (q : Nat) (hq : pc + 3 = q) (h : xw0_table x0 K u  Post) (kk : ∀ (r : Nat) (u2 : XS), Post r u2 → JJ X A Q nL (XP D dA A K u2) k n q lv (.ref r :: st)) : JJ X A Q nL (XP D dA A K u) k n pc lv (.ref x0 :: st) :=
  jx_callNr (na := 0) (As := []) hX hY jf0 h1a (fun sz => mxw0_table (jj_l X) hY.2.2.2.2 D dA aK aV x0 K u  Post h sz) hlk q881 qs20 q120 q882 hd_xw0_table rfl rfl hw hF hL hk hk2 d q hq kk
/-- RaisedPress.setter()LRaisedPress$Setter; -/
def xw0_setter (x0 : Nat) (K : XK) (u : XS) (mc ms : Nat) (Post : Nat → XK → XS → Prop) : Prop :=
  K x0 = (1, 0) ∧
  ∃ b4, (xr u x0 13) = some b4 ∧
  K b4 = (1, 6) ∧
  xw0_table x0 K u (fun r8 u8 =>
    ((xr u b4 0) = (some r8) →
      ∃ b34, (xr u8 x0 13) = some b34 ∧
      Post b34 K u8) ∧
    (¬ (xr u b4 0) = (some r8) →
      1 ≤ mc ∧ 22 ≤ ms ∧ ∀ (b15 : Nat) (K15 : XK) (u15 : XS), (K b15).1 = 0 → K15 = xup K b15 (1, 6) → u15 = xz u8 b15 →
      xw0_table x0 K15 u15 (fun r21 u21 =>
        ∃ m24 w24, (1 + m24) ≤ mc ∧ (22 + w24) ≤ ms ∧ xw6_init b15 x0 r21 K15 u21 m24 w24 (fun K24 u24 =>
          ∀ u27 : XS, u27 = xsr u24 x0 13 (some b15) →
          ∃ b34, (xr u27 x0 13) = some b34 ∧
          Post b34 K24 u27))))
set_option maxHeartbeats 4000000 in
set_option maxRecDepth 100000 in
theorem mxw0_setter (l : Launch) (hfl : l.stackTraces = false) (D : va_G) (dA aK aV : Nat → Nat) (x0 : Nat) (K : XK) (u : XS) (mc ms : Nat) (Post : Nat → XK → XS → Prop) (h : xw0_setter x0 K u mc ms Post) (sz : Nat) : Met l yX0_setter (ws_ yX0_setter cX0_setter 1 (Option.some (Jvm.ClassFile.FieldType.object "RaisedPress$Setter"))) (jx_rm 2 42 mc ms) (jx_Pc D dA aK aV K u sz [.ref x0]) (jx_Qr (fun (r : Nat) (w : XK × XS) => Post r w.1 w.2) (jx_BA D dA K sz) (AX K sz)) mc ms (AX K sz) := by
  refine jx_start hfl [.ref x0] [(0, .ref x0)] (by decide) (Nat.le_of_ble_eq_true rfl) rfl (fun X hX hY hin => ?_)
  unfold xw0_setter at h
  refine jj_aload_n hX dX0_setter_0 0 rfl 1 rfl ?_
  obtain ⟨k1, h⟩ := h
  refine xg0_13 hX hY k1 dX0_setter_1 q424 4 rfl ?_
  obtain ⟨b4, g4, h⟩ := h
  refine jj_st (st2 := [.ref b4]) (by rw [va_rf_some g4]) ?_
  obtain ⟨k4, h⟩ := h
  refine xgn6_0 hX hY k4 dX0_setter_4 nq335 7 rfl ?_
  refine jj_aload_n hX dX0_setter_7 0 rfl 8 rfl ?_
  refine kxw0_table hX hY k1 q879 (Nat.le_of_ble_eq_true rfl) (Nat.le_of_ble_eq_true rfl) (Nat.zero_le _) (Nat.zero_le _) (by simp [jx_rfc, jx_c1, jx_c2, jx_c3, jx_c4]) dX0_setter_8 11 rfl h (fun r8 u8 h => ?_)
  refine jj_acmp_eq (rx := (xr u b4 0)) (ry := (some r8)) hX dX0_setter_11 30 14 (by decide) rfl (fun c11 => ?_) (fun c11 => ?_)
  · have h := h.1 c11
    refine jj_aload_n hX dX0_setter_30 0 rfl 31 rfl ?_
    refine xg0_13 hX hY k1 dX0_setter_31 q424 34 rfl ?_
    obtain ⟨b34, g34, h⟩ := h
    refine jj_st (st2 := [.ref b34]) (by rw [va_rf_some g34]) ?_
    exact jj_retr (post := (fun (r : Nat) (w : XK × XS) => Post r w.1 w.2)) (u := (K, u8)) hX (by first | exact Or.inl ⟨_, rfl⟩ | exact Or.inr ⟨_, rfl⟩) dX0_setter_34 (Nat.zero_le _) (Nat.zero_le _) (jx_hBA XLe.rf) h
  · have h := h.2 c11
    refine jj_aload_n hX dX0_setter_14 0 rfl 15 rfl ?_
    obtain ⟨hc15, hs15, h⟩ := h
    refine jx_new hX hY jf6 jd6 q328 q329 q128 hc15 hs15 dX0_setter_15 18 rfl (fun b15 K15 u15 hb15 eK15 e15 => ?_)
    have h := h b15 K15 u15 hb15 eK15 e15
    have hleb15 : XLe K K15 := by rw [eK15]; exact XLe.up hb15
    have k15 := hleb15.at k1 (by simp)
    have k15_1 := hleb15.at k4 (by simp)
    have hl15 := XLe.rf.tr hleb15
    have k15_2 : K15 b15 = (1, 6) := by rw [eK15]; exact xup_at
    refine jj_cs (k2 := 1) (n2 := 22) rfl rfl ?_
    refine jj_dup hX dX0_setter_18 rfl 19 rfl ?_
    refine jj_aload_n hX dX0_setter_19 0 rfl 20 rfl ?_
    refine jj_aload_n hX dX0_setter_20 0 rfl 21 rfl ?_
    refine kxw0_table hX hY k15 q879 (Nat.le_of_ble_eq_true rfl) (Nat.le_of_ble_eq_true rfl) hc15 hs15 (Nat.le_of_ble_eq_true rfl) dX0_setter_21 24 rfl h (fun r21 u21 h => ?_)
    obtain ⟨m24, w24, hc24, hs24, h⟩ := h
    refine kxw6_init hX hY q330 (Nat.le_of_ble_eq_true rfl) (Nat.le_of_ble_eq_true rfl) hc24 hs24 (Nat.le_of_ble_eq_true rfl) dX0_setter_24 27 rfl h (fun K24 u24 hle24 h => ?_)
    have k24 := hle24.at k15 (by simp)
    have k24_1 := hle24.at k15_1 (by simp)
    have k24_2 := hle24.at k15_2 (by simp)
    have hl24 := hl15.tr hle24
    refine jj_cs (k2 := (1 + m24)) (n2 := (22 + w24)) (by simp) (by simp) ?_
    refine xp0_13 (v := (some b15)) hX hY k24 dX0_setter_27 q424 30 rfl (fun u27 e27 => ?_)
    have h := h u27 e27
    refine jj_aload_n hX dX0_setter_30 0 rfl 31 rfl ?_
    refine xg0_13 hX hY k24 dX0_setter_31 q424 34 rfl ?_
    obtain ⟨b34, g34, h⟩ := h
    refine jj_st (st2 := [.ref b34]) (by rw [va_rf_some g34]) ?_
    exact jj_retr (post := (fun (r : Nat) (w : XK × XS) => Post r w.1 w.2)) (u := (K24, u27)) hX (by first | exact Or.inl ⟨_, rfl⟩ | exact Or.inr ⟨_, rfl⟩) dX0_setter_34 hc24 hs24 (jx_hBA hl24) h
theorem hd_xw0_setter : yX0_setter.cls ≠ "java/lang/invoke/MethodHandle" ∧ yX0_setter.cls ≠ "java/lang/invoke/VarHandle" ∧ (parseMethodDescriptor yX0_setter.desc).map (fun d => d.parameters.length) = some 0 := by decide +kernel
theorem kxw0_setter {X : JC} {A : Nat → Prop} {Q : State → Prop} {nL k n pc : Nat} {lv : List (Nat × Value)} {st : List Value} {own : String} {cc : ByteArray} {ret : Option FieldType} {F LL mc ms ix mc2 ms2 : Nat} {D : va_G} {dA aK aV : Nat → Nat} {K : XK} {u : XS} {x0 : Nat} {Post : Nat → XK → XS → Prop} (hX : JX X own cc nL ret F LL mc ms) (hY : JY X D dA aK aV A) (h1a : K x0 = (1, 0)) (hlk : (Cond.methodLink own ix yX0_setter) ∈ lw_all) (hF : 2 + 1 ≤ F) (hL : 8 + (1 + 11) + 42 ≤ LL) (hk : k + mc2 ≤ mc) (hk2 : n + ms2 ≤ ms) (hw : (st.map fun v => v.category).sum ≤ 8) (d : decode cc pc = .ok (.invokevirtual ix, 3)) (q : Nat) (hq : pc + 3 = q) (h : xw0_setter x0 K u mc2 ms2 Post) (kk : ∀ (r : Nat) (K2 : XK) (u2 : XS), XLe K K2 → Post r K2 u2 → JJ X A Q nL (XP D dA A K2 u2) (k + mc2) (n + ms2) q lv (.ref r :: st)) : JJ X A Q nL (XP D dA A K u) k n pc lv (.ref x0 :: st) :=
  jx_callVrA (na := 0) (As := []) hX hY jf0 h1a (fun sz => mxw0_setter (jj_l X) hY.2.2.2.2 D dA aK aV x0 K u mc2 ms2 Post h sz) hlk q877 qs19 q120 q878 ⟨rfl, hd_xw0_setter⟩ rfl rfl hw hF hL hk hk2 d q hq kk
theorem knxw0_setter {X : JC} {A : Nat → Prop} {Q : State → Prop} {nL k n pc : Nat} {lv : List (Nat × Value)} {st : List Value} {own : String} {cc : ByteArray} {ret : Option FieldType} {F LL mc ms ix mc2 ms2 : Nat} {D : va_G} {dA aK aV : Nat → Nat} {K : XK} {u : XS} {x0 : Nat} {host : String} {Post : Nat → XK → XS → Prop} (hX : JX X own cc nL ret F LL mc ms) (hY : JY X D dA aK aV A) (h1a : K x0 = (1, 0)) (hlk : (Cond.methodLinkNest own ix yX0_setter host) ∈ jx_nest) (hF : 2 + 1 ≤ F) (hL : 8 + (1 + 11) + 42 ≤ LL) (hk : k + mc2 ≤ mc) (hk2 : n + ms2 ≤ ms) (hw : (st.map fun v => v.category).sum ≤ 8) (d : decode cc pc = .ok (.invokevirtual ix, 3)) (q : Nat) (hq : pc + 3 = q) (h : xw0_setter x0 K u mc2 ms2 Post) (kk : ∀ (r : Nat) (K2 : XK) (u2 : XS), XLe K K2 → Post r K2 u2 → JJ X A Q nL (XP D dA A K2 u2) (k + mc2) (n + ms2) q lv (.ref r :: st)) : JJ X A Q nL (XP D dA A K u) k n pc lv (.ref x0 :: st) :=
  jx_callNrA (na := 0) (As := []) hX hY jf0 h1a (fun sz => mxw0_setter (jj_l X) hY.2.2.2.2 D dA aK aV x0 K u mc2 ms2 Post h sz) hlk q877 qs19 q120 q878 hd_xw0_setter rfl rfl hw hF hL hk hk2 d q hq kk
/-- RaisedPress$Setter.sets(II)V -/
def xw6_sets_2 (x0 : Nat) (x1 : Int32) (x2 : Int32) (K : XK) (u : XS) (Post : XS → Prop) : Prop :=
  K x0 = (1, 6) ∧
  ∃ b9, (xr u x0 8) = some b9 ∧
  ∃ n9, K b9 = (2, n9) ∧
  vp_in (xi u x0 4) n9 ∧
  ∀ u9 : XS, u9 = xsi u b9 (xi u x0 4).toNatClampNeg x1 →
  ∃ b19, (xr u9 x0 13) = some b19 ∧
  ∃ n19, K b19 = (2, n19) ∧
  vp_in (xi u9 x0 4) n19 ∧
  ∀ u19 : XS, u19 = xsi u9 b19 (xi u9 x0 4).toNatClampNeg x2 →
  ∀ u27 : XS, u27 = xsi u19 x0 4 ((xi u19 x0 4) + (1 : Int32)) →
  Post u27
set_option maxHeartbeats 4000000 in
set_option maxRecDepth 100000 in
theorem mxw6_sets_2 (l : Launch) (hfl : l.stackTraces = false) (D : va_G) (dA aK aV : Nat → Nat) (x0 : Nat) (x1 : Int32) (x2 : Int32) (K : XK) (u : XS) (Post : XS → Prop) (h : xw6_sets_2 x0 x1 x2 K u Post) (sz : Nat) : Met l yX6_sets_2 (ws_ yX6_sets_2 cX6_sets_2 3 (Option.none : Option Jvm.ClassFile.FieldType)) (jx_rm 0 0 0 0) (jx_Pc D dA aK aV K u sz [.ref x0, .int x1, .int x2]) (va_Qv (fun w : XS => Post w) (jx_B D dA K) (AX K sz)) 0 0 (AX K sz) := by
  refine jx_start hfl [.ref x0, .int x1, .int x2] [(0, .ref x0), (1, .int x1), (2, .int x2)] (by decide) (Nat.le_of_ble_eq_true rfl) rfl (fun X hX hY hin => ?_)
  unfold xw6_sets_2 at h
  refine jj_aload_n hX dX6_sets_2_0 0 rfl 1 rfl ?_
  obtain ⟨k1, h⟩ := h
  refine xg6_8 hX hY k1 dX6_sets_2_1 q347 4 rfl ?_
  refine jj_aload_n hX dX6_sets_2_4 0 rfl 5 rfl ?_
  refine xg6_4 hX hY k1 dX6_sets_2_5 q342 8 rfl ?_
  refine jj_iload_n hX dX6_sets_2_8 1 rfl 9 rfl ?_
  obtain ⟨b9, g9, h⟩ := h
  refine jj_st (st2 := [.int x1, .int (xi u x0 4), .ref b9]) (by rw [va_rf_some g9]) ?_
  obtain ⟨n9, k9, h⟩ := h
  obtain ⟨hi9, h⟩ := h
  refine jx_iast hX hY.1 k9 _ rfl hi9 dX6_sets_2_9 10 rfl (fun u9 e9 => ?_)
  have h := h u9 e9
  refine jj_aload_n hX dX6_sets_2_10 0 rfl 11 rfl ?_
  refine xg6_13 hX hY k1 dX6_sets_2_11 q353 14 rfl ?_
  refine jj_aload_n hX dX6_sets_2_14 0 rfl 15 rfl ?_
  refine xg6_4 hX hY k1 dX6_sets_2_15 q342 18 rfl ?_
  refine jj_iload_n hX dX6_sets_2_18 2 rfl 19 rfl ?_
  obtain ⟨b19, g19, h⟩ := h
  refine jj_st (st2 := [.int x2, .int (xi u9 x0 4), .ref b19]) (by rw [va_rf_some g19]) ?_
  obtain ⟨n19, k19, h⟩ := h
  obtain ⟨hi19, h⟩ := h
  refine jx_iast hX hY.1 k19 _ rfl hi19 dX6_sets_2_19 20 rfl (fun u19 e19 => ?_)
  have h := h u19 e19
  refine jj_aload_n hX dX6_sets_2_20 0 rfl 21 rfl ?_
  refine jj_dup hX dX6_sets_2_21 rfl 22 rfl ?_
  refine xg6_4 hX hY k1 dX6_sets_2_22 q342 25 rfl ?_
  refine jj_iconst hX dX6_sets_2_25 ci_1 26 rfl ?_
  refine jj_iadd hX dX6_sets_2_26 27 rfl ?_
  refine xp6_4 hX hY k1 dX6_sets_2_27 q342 30 rfl (fun u27 e27 => ?_)
  have h := h u27 e27
  exact jj_retv (post := (fun w : XS => Post w)) (u := u27) hX dX6_sets_2_30 (Nat.le_refl 0) (Nat.le_refl 0) jx_hB h
theorem hd_xw6_sets_2 : yX6_sets_2.cls ≠ "java/lang/invoke/MethodHandle" ∧ yX6_sets_2.cls ≠ "java/lang/invoke/VarHandle" ∧ (parseMethodDescriptor yX6_sets_2.desc).map (fun d => d.parameters.length) = some 2 := by decide +kernel
theorem kxw6_sets_2 {X : JC} {A : Nat → Prop} {Q : State → Prop} {nL k n pc : Nat} {lv : List (Nat × Value)} {st : List Value} {own : String} {cc : ByteArray} {ret : Option FieldType} {F LL mc ms ix : Nat} {D : va_G} {dA aK aV : Nat → Nat} {K : XK} {u : XS} {x0 : Nat} {x1 : Int32} {x2 : Int32} {Post : XS → Prop} (hX : JX X own cc nL ret F LL mc ms) (hY : JY X D dA aK aV A) (h1a : K x0 = (1, 6)) (hlk : (Cond.methodLink own ix yX6_sets_2) ∈ lw_all) (hF : 0 + 1 ≤ F) (hL : 8 + (3 + 11) + 0 ≤ LL) (hk : k ≤ mc) (hk2 : n ≤ ms) (hw : (st.map fun v => v.category).sum ≤ 8) (d : decode cc pc = .ok (.invokevirtual ix, 3)) (q : Nat) (hq : pc + 3 = q) (h : xw6_sets_2 x0 x1 x2 K u  Post) (kk : ∀ (u2 : XS), Post u2 → JJ X A Q nL (XP D dA A K u2) k n q lv (st)) : JJ X A Q nL (XP D dA A K u) k n pc lv (.int x2 :: .int x1 :: .ref x0 :: st) :=
  jx_callVv (na := 2) (As := [.int x1, .int x2]) hX hY jf6 h1a (fun sz => mxw6_sets_2 (jj_l X) hY.2.2.2.2 D dA aK aV x0 x1 x2 K u  Post h sz) hlk q894 qs22 q128 q895 ⟨rfl, hd_xw6_sets_2⟩ rfl rfl hw hF hL hk hk2 d q hq kk
theorem knxw6_sets_2 {X : JC} {A : Nat → Prop} {Q : State → Prop} {nL k n pc : Nat} {lv : List (Nat × Value)} {st : List Value} {own : String} {cc : ByteArray} {ret : Option FieldType} {F LL mc ms ix : Nat} {D : va_G} {dA aK aV : Nat → Nat} {K : XK} {u : XS} {x0 : Nat} {x1 : Int32} {x2 : Int32} {host : String} {Post : XS → Prop} (hX : JX X own cc nL ret F LL mc ms) (hY : JY X D dA aK aV A) (h1a : K x0 = (1, 6)) (hlk : (Cond.methodLinkNest own ix yX6_sets_2 host) ∈ jx_nest) (hF : 0 + 1 ≤ F) (hL : 8 + (3 + 11) + 0 ≤ LL) (hk : k ≤ mc) (hk2 : n ≤ ms) (hw : (st.map fun v => v.category).sum ≤ 8) (d : decode cc pc = .ok (.invokevirtual ix, 3)) (q : Nat) (hq : pc + 3 = q) (h : xw6_sets_2 x0 x1 x2 K u  Post) (kk : ∀ (u2 : XS), Post u2 → JJ X A Q nL (XP D dA A K u2) k n q lv (st)) : JJ X A Q nL (XP D dA A K u) k n pc lv (.int x2 :: .int x1 :: .ref x0 :: st) :=
  jx_callNv (na := 2) (As := [.int x1, .int x2]) hX hY jf6 h1a (fun sz => mxw6_sets_2 (jj_l X) hY.2.2.2.2 D dA aK aV x0 x1 x2 K u  Post h sz) hlk q894 qs22 q128 q895 hd_xw6_sets_2 rfl rfl hw hF hL hk hk2 d q hq kk
/-- RaisedPress$Setter.sets(I)V -/
def xw6_sets (x0 : Nat) (x1 : Int32) (K : XK) (u : XS) (Post : XS → Prop) : Prop :=
  K x0 = (1, 6) ∧
  xw6_sets_2 x0 x1 (-1 : Int32) K u (fun u3 =>
    Post u3)
set_option maxHeartbeats 4000000 in
set_option maxRecDepth 100000 in
theorem mxw6_sets (l : Launch) (hfl : l.stackTraces = false) (D : va_G) (dA aK aV : Nat → Nat) (x0 : Nat) (x1 : Int32) (K : XK) (u : XS) (Post : XS → Prop) (h : xw6_sets x0 x1 K u Post) (sz : Nat) : Met l yX6_sets (ws_ yX6_sets cX6_sets 2 (Option.none : Option Jvm.ClassFile.FieldType)) (jx_rm 1 22 0 0) (jx_Pc D dA aK aV K u sz [.ref x0, .int x1]) (va_Qv (fun w : XS => Post w) (jx_B D dA K) (AX K sz)) 0 0 (AX K sz) := by
  refine jx_start hfl [.ref x0, .int x1] [(0, .ref x0), (1, .int x1)] (by decide) (Nat.le_of_ble_eq_true rfl) rfl (fun X hX hY hin => ?_)
  unfold xw6_sets at h
  refine jj_aload_n hX dX6_sets_0 0 rfl 1 rfl ?_
  refine jj_iload_n hX dX6_sets_1 1 rfl 2 rfl ?_
  refine jj_iconst hX dX6_sets_2 ci_m1 3 rfl ?_
  obtain ⟨k3, h⟩ := h
  refine kxw6_sets_2 hX hY k3 q892 (Nat.le_of_ble_eq_true rfl) (Nat.le_of_ble_eq_true rfl) (Nat.zero_le _) (Nat.zero_le _) (Nat.le_of_ble_eq_true rfl) dX6_sets_3 6 rfl h (fun u3 h => ?_)
  exact jj_retv (post := (fun w : XS => Post w)) (u := u3) hX dX6_sets_6 (Nat.le_refl 0) (Nat.le_refl 0) jx_hB h
theorem hd_xw6_sets : yX6_sets.cls ≠ "java/lang/invoke/MethodHandle" ∧ yX6_sets.cls ≠ "java/lang/invoke/VarHandle" ∧ (parseMethodDescriptor yX6_sets.desc).map (fun d => d.parameters.length) = some 1 := by decide +kernel
theorem kxw6_sets {X : JC} {A : Nat → Prop} {Q : State → Prop} {nL k n pc : Nat} {lv : List (Nat × Value)} {st : List Value} {own : String} {cc : ByteArray} {ret : Option FieldType} {F LL mc ms ix : Nat} {D : va_G} {dA aK aV : Nat → Nat} {K : XK} {u : XS} {x0 : Nat} {x1 : Int32} {Post : XS → Prop} (hX : JX X own cc nL ret F LL mc ms) (hY : JY X D dA aK aV A) (h1a : K x0 = (1, 6)) (hlk : (Cond.methodLink own ix yX6_sets) ∈ lw_all) (hF : 1 + 1 ≤ F) (hL : 8 + (2 + 11) + 22 ≤ LL) (hk : k ≤ mc) (hk2 : n ≤ ms) (hw : (st.map fun v => v.category).sum ≤ 8) (d : decode cc pc = .ok (.invokevirtual ix, 3)) (q : Nat) (hq : pc + 3 = q) (h : xw6_sets x0 x1 K u  Post) (kk : ∀ (u2 : XS), Post u2 → JJ X A Q nL (XP D dA A K u2) k n q lv (st)) : JJ X A Q nL (XP D dA A K u) k n pc lv (.int x1 :: .ref x0 :: st) :=
  jx_callVv (na := 1) (As := [.int x1]) hX hY jf6 h1a (fun sz => mxw6_sets (jj_l X) hY.2.2.2.2 D dA aK aV x0 x1 K u  Post h sz) hlk q890 qs21 q128 q891 ⟨rfl, hd_xw6_sets⟩ rfl rfl hw hF hL hk hk2 d q hq kk
theorem knxw6_sets {X : JC} {A : Nat → Prop} {Q : State → Prop} {nL k n pc : Nat} {lv : List (Nat × Value)} {st : List Value} {own : String} {cc : ByteArray} {ret : Option FieldType} {F LL mc ms ix : Nat} {D : va_G} {dA aK aV : Nat → Nat} {K : XK} {u : XS} {x0 : Nat} {x1 : Int32} {host : String} {Post : XS → Prop} (hX : JX X own cc nL ret F LL mc ms) (hY : JY X D dA aK aV A) (h1a : K x0 = (1, 6)) (hlk : (Cond.methodLinkNest own ix yX6_sets host) ∈ jx_nest) (hF : 1 + 1 ≤ F) (hL : 8 + (2 + 11) + 22 ≤ LL) (hk : k ≤ mc) (hk2 : n ≤ ms) (hw : (st.map fun v => v.category).sum ≤ 8) (d : decode cc pc = .ok (.invokevirtual ix, 3)) (q : Nat) (hq : pc + 3 = q) (h : xw6_sets x0 x1 K u  Post) (kk : ∀ (u2 : XS), Post u2 → JJ X A Q nL (XP D dA A K u2) k n q lv (st)) : JJ X A Q nL (XP D dA A K u) k n pc lv (.int x1 :: .ref x0 :: st) :=
  jx_callNv (na := 1) (As := [.int x1]) hX hY jf6 h1a (fun sz => mxw6_sets (jj_l X) hY.2.2.2.2 D dA aK aV x0 x1 K u  Post h sz) hlk q890 qs21 q128 q891 hd_xw6_sets rfl rfl hw hF hL hk hk2 d q hq kk
/-- RaisedPress.isGreat(I)Z -/
def xs_isGreat (x0 : Int32) (Post : Int32 → Prop) : Prop :=
  (x0 < (65 : Int32) →
    Post (0 : Int32)) ∧
  (¬ x0 < (65 : Int32) →
    ((90 : Int32) < x0 →
      Post (0 : Int32)) ∧
    (¬ (90 : Int32) < x0 →
      Post (1 : Int32)))
set_option maxHeartbeats 4000000 in
set_option maxRecDepth 100000 in
theorem mxs_isGreat (l : Launch) (x0 : Int32) (Post : Int32 → Prop) (h : xs_isGreat x0 Post) : Met l yX0_isGreat (ws_ yX0_isGreat cX0_isGreat 1 (Option.some Jvm.ClassFile.FieldType.boolean)) (jm_rm 0 0) (js_Pc [.int x0]) (va_Qi (fun r (_ : Unit) => Post r ∧ jj_z r) js_B js_A) 0 0 js_A := by
  refine js_start [.int x0] [(0, .int x0)] (by decide) (Nat.le_of_ble_eq_true rfl) rfl (fun X hX => ?_)
  unfold xs_isGreat at h
  refine jj_iload_n hX dX0_isGreat_0 0 rfl 1 rfl ?_
  refine jj_bipush hX dX0_isGreat_1 cb_65 3 rfl ?_
  refine jj_icmp_lt hX dX0_isGreat_3 16 6 (by decide) rfl (fun c3 => ?_) (fun c3 => ?_)
  · have h := h.1 c3
    refine jj_iconst hX dX0_isGreat_16 ci_0 17 rfl ?_
    exact jj_retz (post := (fun r (_ : Unit) => Post r)) (u := ()) hX dX0_isGreat_17 (Nat.le_refl 0) (Nat.le_refl 0) js_hB jj_z0 h
  · have h := h.2 c3
    refine jj_iload_n hX dX0_isGreat_6 0 rfl 7 rfl ?_
    refine jj_bipush hX dX0_isGreat_7 cb_90 9 rfl ?_
    refine jj_icmp_gt hX dX0_isGreat_9 16 12 (by decide) rfl (fun c9 => ?_) (fun c9 => ?_)
    · have h := h.1 c9
      refine jj_iconst hX dX0_isGreat_16 ci_0 17 rfl ?_
      exact jj_retz (post := (fun r (_ : Unit) => Post r)) (u := ()) hX dX0_isGreat_17 (Nat.le_refl 0) (Nat.le_refl 0) js_hB jj_z0 h
    · have h := h.2 c9
      refine jj_iconst hX dX0_isGreat_12 ci_1 13 rfl ?_
      refine jj_goto hX dX0_isGreat_13 17 (by decide) ?_
      exact jj_retz (post := (fun r (_ : Unit) => Post r)) (u := ()) hX dX0_isGreat_17 (Nat.le_refl 0) (Nat.le_refl 0) js_hB jj_z1 h
theorem hd_xs_isGreat : yX0_isGreat.cls ≠ "java/lang/invoke/MethodHandle" ∧ yX0_isGreat.cls ≠ "java/lang/invoke/VarHandle" ∧ (parseMethodDescriptor yX0_isGreat.desc).map (fun d => d.parameters.length) = some 1 := by decide +kernel
theorem kxs_isGreat {X : JC} {A : Nat → Prop} {Q : State → Prop} {P : Heap → Prop} {nL k n pc : Nat} {lv : List (Nat × Value)} {st : List Value} {own : String} {cc : ByteArray} {ret : Option FieldType} {F LL mc ms ix : Nat} {x0 : Int32} {Post : Int32 → Prop} (hX : JX X own cc nL ret F LL mc ms) (hKP : jj_Keeps P) (hlk : (Cond.methodLink own ix yX0_isGreat) ∈ lw_all) (hF : 0 + 1 ≤ F) (hL : 8 + (1 + 11) + 0 ≤ LL) (hk : k ≤ mc) (hk2 : n ≤ ms) (hw : (st.map fun v => v.category).sum ≤ 8) (d : decode cc pc = .ok (.invokestatic ix, 3)) (q : Nat) (hq : pc + 3 = q) (h : xs_isGreat x0 Post) (kk : ∀ r : Int32, jj_z r → Post r → JJ X A Q nL P k n q lv (.int r :: st)) : JJ X A Q nL P k n pc lv (.int x0 :: st) :=
  js_callz (na := 1) (As := [.int x0]) hX hKP (mxs_isGreat (jj_l X) x0 Post h) hlk q901 q120 q902 hd_xs_isGreat rfl rfl hw hF hL hk hk2 d q hq kk
theorem knxs_isGreat {X : JC} {A : Nat → Prop} {Q : State → Prop} {P : Heap → Prop} {nL k n pc : Nat} {lv : List (Nat × Value)} {st : List Value} {own host : String} {cc : ByteArray} {ret : Option FieldType} {F LL mc ms ix : Nat} {x0 : Int32} {Post : Int32 → Prop} (hX : JX X own cc nL ret F LL mc ms) (hKP : jj_Keeps P) (hN : JN (jj_s X)) (hlk : (Cond.methodLinkNest own ix yX0_isGreat host) ∈ jx_nest) (hF : 0 + 1 ≤ F) (hL : 8 + (1 + 11) + 0 ≤ LL) (hk : k ≤ mc) (hk2 : n ≤ ms) (hw : (st.map fun v => v.category).sum ≤ 8) (d : decode cc pc = .ok (.invokestatic ix, 3)) (q : Nat) (hq : pc + 3 = q) (h : xs_isGreat x0 Post) (kk : ∀ r : Int32, jj_z r → Post r → JJ X A Q nL P k n q lv (.int r :: st)) : JJ X A Q nL P k n pc lv (.int x0 :: st) :=
  js_callNz (na := 1) (As := [.int x0]) hX hKP hN (mxs_isGreat (jj_l X) x0 Post h) hlk q901 q120 q902 hd_xs_isGreat rfl rfl hw hF hL hk hk2 d q hq kk
/-- RaisedPress.isLetter(I)Z -/
def xs_isLetter (x0 : Int32) (Post : Int32 → Prop) : Prop :=
  xs_isSmall x0 (fun r1 =>
    (¬ r1 = 0 →
      Post (1 : Int32)) ∧
    (r1 = 0 →
      xs_isGreat x0 (fun r8 =>
        (r8 = 0 →
          Post (0 : Int32)) ∧
        (¬ r8 = 0 →
          Post (1 : Int32)))))
set_option maxHeartbeats 4000000 in
set_option maxRecDepth 100000 in
theorem mxs_isLetter (l : Launch) (x0 : Int32) (Post : Int32 → Prop) (h : xs_isLetter x0 Post) : Met l yX0_isLetter (ws_ yX0_isLetter cX0_isLetter 1 (Option.some Jvm.ClassFile.FieldType.boolean)) (jm_rm 1 20) (js_Pc [.int x0]) (va_Qi (fun r (_ : Unit) => Post r ∧ jj_z r) js_B js_A) 0 0 js_A := by
  refine js_start [.int x0] [(0, .int x0)] (by decide) (Nat.le_of_ble_eq_true rfl) rfl (fun X hX => ?_)
  unfold xs_isLetter at h
  refine jj_iload_n hX dX0_isLetter_0 0 rfl 1 rfl ?_
  refine kxs_isSmall hX js_keepP q899 (Nat.le_of_ble_eq_true rfl) (Nat.le_of_ble_eq_true rfl) (Nat.zero_le _) (Nat.zero_le _) (Nat.le_of_ble_eq_true rfl) dX0_isLetter_1 4 rfl h (fun r1 hb1 h => ?_)
  refine jj_if_ne hX dX0_isLetter_4 14 7 (by decide) rfl (fun c4 => ?_) (fun c4 => ?_)
  · have h := h.1 c4
    refine jj_iconst hX dX0_isLetter_14 ci_1 15 rfl ?_
    refine jj_goto hX dX0_isLetter_15 19 (by decide) ?_
    exact jj_retz (post := (fun r (_ : Unit) => Post r)) (u := ()) hX dX0_isLetter_19 (Nat.le_refl 0) (Nat.le_refl 0) js_hB jj_z1 h
  · have h := h.2 c4
    refine jj_iload_n hX dX0_isLetter_7 0 rfl 8 rfl ?_
    refine kxs_isGreat hX js_keepP q900 (Nat.le_of_ble_eq_true rfl) (Nat.le_of_ble_eq_true rfl) (Nat.zero_le _) (Nat.zero_le _) (Nat.le_of_ble_eq_true rfl) dX0_isLetter_8 11 rfl h (fun r8 hb8 h => ?_)
    refine jj_if_eq hX dX0_isLetter_11 18 14 (by decide) rfl (fun c11 => ?_) (fun c11 => ?_)
    · have h := h.1 c11
      refine jj_iconst hX dX0_isLetter_18 ci_0 19 rfl ?_
      exact jj_retz (post := (fun r (_ : Unit) => Post r)) (u := ()) hX dX0_isLetter_19 (Nat.le_refl 0) (Nat.le_refl 0) js_hB jj_z0 h
    · have h := h.2 c11
      refine jj_iconst hX dX0_isLetter_14 ci_1 15 rfl ?_
      refine jj_goto hX dX0_isLetter_15 19 (by decide) ?_
      exact jj_retz (post := (fun r (_ : Unit) => Post r)) (u := ()) hX dX0_isLetter_19 (Nat.le_refl 0) (Nat.le_refl 0) js_hB jj_z1 h
theorem hd_xs_isLetter : yX0_isLetter.cls ≠ "java/lang/invoke/MethodHandle" ∧ yX0_isLetter.cls ≠ "java/lang/invoke/VarHandle" ∧ (parseMethodDescriptor yX0_isLetter.desc).map (fun d => d.parameters.length) = some 1 := by decide +kernel
theorem kxs_isLetter {X : JC} {A : Nat → Prop} {Q : State → Prop} {P : Heap → Prop} {nL k n pc : Nat} {lv : List (Nat × Value)} {st : List Value} {own : String} {cc : ByteArray} {ret : Option FieldType} {F LL mc ms ix : Nat} {x0 : Int32} {Post : Int32 → Prop} (hX : JX X own cc nL ret F LL mc ms) (hKP : jj_Keeps P) (hlk : (Cond.methodLink own ix yX0_isLetter) ∈ lw_all) (hF : 1 + 1 ≤ F) (hL : 8 + (1 + 11) + 20 ≤ LL) (hk : k ≤ mc) (hk2 : n ≤ ms) (hw : (st.map fun v => v.category).sum ≤ 8) (d : decode cc pc = .ok (.invokestatic ix, 3)) (q : Nat) (hq : pc + 3 = q) (h : xs_isLetter x0 Post) (kk : ∀ r : Int32, jj_z r → Post r → JJ X A Q nL P k n q lv (.int r :: st)) : JJ X A Q nL P k n pc lv (.int x0 :: st) :=
  js_callz (na := 1) (As := [.int x0]) hX hKP (mxs_isLetter (jj_l X) x0 Post h) hlk q897 q120 q898 hd_xs_isLetter rfl rfl hw hF hL hk hk2 d q hq kk
theorem knxs_isLetter {X : JC} {A : Nat → Prop} {Q : State → Prop} {P : Heap → Prop} {nL k n pc : Nat} {lv : List (Nat × Value)} {st : List Value} {own host : String} {cc : ByteArray} {ret : Option FieldType} {F LL mc ms ix : Nat} {x0 : Int32} {Post : Int32 → Prop} (hX : JX X own cc nL ret F LL mc ms) (hKP : jj_Keeps P) (hN : JN (jj_s X)) (hlk : (Cond.methodLinkNest own ix yX0_isLetter host) ∈ jx_nest) (hF : 1 + 1 ≤ F) (hL : 8 + (1 + 11) + 20 ≤ LL) (hk : k ≤ mc) (hk2 : n ≤ ms) (hw : (st.map fun v => v.category).sum ≤ 8) (d : decode cc pc = .ok (.invokestatic ix, 3)) (q : Nat) (hq : pc + 3 = q) (h : xs_isLetter x0 Post) (kk : ∀ r : Int32, jj_z r → Post r → JJ X A Q nL P k n q lv (.int r :: st)) : JJ X A Q nL P k n pc lv (.int x0 :: st) :=
  js_callNz (na := 1) (As := [.int x0]) hX hKP hN (mxs_isLetter (jj_l X) x0 Post h) hlk q897 q120 q898 hd_xs_isLetter rfl rfl hw hF hL hk hk2 d q hq kk
def xw6_wordEnd_L2_S (Post : Int32 → XS → Prop) (K : XK) (x0 : Nat) (R : Int32 → XS → Prop) (x2 : Int32) (u : XS) : Prop :=
  K x0 = (1, 6) ∧
  ((xi u x0 3) ≤ x2 →
    Post x2 u) ∧
  (¬ (xi u x0 3) ≤ x2 →
    ∃ b15, (xr u x0 2) = some b15 ∧
    ∃ n15, K b15 = (3, n15) ∧
    vp_in x2 n15 ∧
    xs_isLetter (xi u b15 x2.toNatClampNeg) (fun r16 =>
      (r16 = 0 →
        Post x2 u) ∧
      (¬ r16 = 0 →
        ∀ v22 : Int32, v22 = x2 + (1 : Int32) →
        R v22 u)))
def xw6_wordEnd_L2 (Post : Int32 → XS → Prop) (K : XK) (x0 : Nat) : Nat → Int32 → XS → Prop
  | 0 => fun _ _ => False
  | n + 1 => fun x2 u => xw6_wordEnd_L2_S Post K x0 (xw6_wordEnd_L2 Post K x0 n) x2 u
/-- RaisedPress$Setter.wordEnd(I)I -/
def xw6_wordEnd (x0 : Nat) (x1 : Int32) (K : XK) (u : XS) (Post : Int32 → XS → Prop) : Prop :=
  ∃ n, xw6_wordEnd_L2 Post K x0 n x1 u
set_option maxHeartbeats 4000000 in
set_option maxRecDepth 100000 in
theorem txw6_wordEnd_L2 {X : JC} {D : va_G} {dA aK aV : Nat → Nat} {sz : Nat} {K : XK} {Post : Int32 → XS → Prop} {x0 : Nat} (hX : JX X yX6_wordEnd.cls cX6_wordEnd 3 (Option.some Jvm.ClassFile.FieldType.int) 2 40 0 0) (hY : JY X D dA aK aV (AX K sz)) : ∀ (n : Nat) (x2 : Int32) (u : XS), xw6_wordEnd_L2 Post K x0 n x2 u → JJ X (AX K sz) (jj_Q X (va_Qi (fun (r : Int32) (w : XS) => Post r w) (jx_B D dA K) (AX K sz)) 0 0 (AX K sz)) 3 (XP D dA (AX K sz) K u) 0 0 2 [(0, .ref x0), (2, .int x2)] [] := by
  intro n
  induction n with
  | zero =>
    intro x2 u h
    exact h.elim
  | succ n ih =>
    intro x2 u h
    have h : xw6_wordEnd_L2_S Post K x0 (xw6_wordEnd_L2 Post K x0 n) x2 u := h
    unfold xw6_wordEnd_L2_S at h
    refine jj_iload_n hX dX6_wordEnd_2 1 rfl 3 rfl ?_
    refine jj_aload_n hX dX6_wordEnd_3 0 rfl 4 rfl ?_
    obtain ⟨k4, h⟩ := h
    refine xg6_3 hX hY k4 dX6_wordEnd_4 q340 7 rfl ?_
    refine jj_icmp_ge hX dX6_wordEnd_7 28 10 (by decide) rfl (fun c7 => ?_) (fun c7 => ?_)
    · have h := h.1 c7
      refine jj_iload_n hX dX6_wordEnd_28 1 rfl 29 rfl ?_
      exact jj_reti (post := (fun (r : Int32) (w : XS) => Post r w)) (u := u) hX dX6_wordEnd_29 (Nat.le_refl 0) (Nat.le_refl 0) jx_hB h
    · have h := h.2 c7
      refine jj_aload_n hX dX6_wordEnd_10 0 rfl 11 rfl ?_
      refine xg6_2 hX hY k4 dX6_wordEnd_11 q338 14 rfl ?_
      refine jj_iload_n hX dX6_wordEnd_14 1 rfl 15 rfl ?_
      obtain ⟨b15, g15, h⟩ := h
      refine jj_st (st2 := [.int x2, .ref b15]) (by rw [va_rf_some g15]) ?_
      obtain ⟨n15, k15, h⟩ := h
      obtain ⟨hi15, h⟩ := h
      refine jx_bald hX hY.1 k15 _ rfl hi15 dX6_wordEnd_15 16 rfl ?_
      refine knxs_isLetter hX XP.keeps hY.2.1 nq896 (Nat.le_of_ble_eq_true rfl) (Nat.le_of_ble_eq_true rfl) (Nat.zero_le _) (Nat.zero_le _) (Nat.le_of_ble_eq_true rfl) dX6_wordEnd_16 19 rfl h (fun r16 hb16 h => ?_)
      refine jj_if_eq hX dX6_wordEnd_19 28 22 (by decide) rfl (fun c19 => ?_) (fun c19 => ?_)
      · have h := h.1 c19
        refine jj_iload_n hX dX6_wordEnd_28 1 rfl 29 rfl ?_
        exact jj_reti (post := (fun (r : Int32) (w : XS) => Post r w)) (u := u) hX dX6_wordEnd_29 (Nat.le_refl 0) (Nat.le_refl 0) jx_hB h
      · have h := h.2 c19
        obtain ⟨v22, e22⟩ : ∃ y : Int32, y = x2 + (1 : Int32) := ⟨_, rfl⟩
        have h := h v22 e22
        refine jj_iinc (v := v22) (lv2 := [(0, .ref x0), (2, .int v22)]) hX dX6_wordEnd_22 1 rfl (by rw [e22, ci_1]) (Nat.le_of_ble_eq_true rfl) [1, 0] rfl 25 rfl ?_
        refine jj_goto hX dX6_wordEnd_25 2 (by decide) ?_
        exact ih _ _ h
set_option maxHeartbeats 4000000 in
set_option maxRecDepth 100000 in
theorem mxw6_wordEnd (l : Launch) (hfl : l.stackTraces = false) (D : va_G) (dA aK aV : Nat → Nat) (x0 : Nat) (x1 : Int32) (K : XK) (u : XS) (Post : Int32 → XS → Prop) (h : xw6_wordEnd x0 x1 K u Post) (sz : Nat) : Met l yX6_wordEnd (ws_ yX6_wordEnd cX6_wordEnd 3 (Option.some Jvm.ClassFile.FieldType.int)) (jx_rm 2 40 0 0) (jx_Pc D dA aK aV K u sz [.ref x0, .int x1]) (va_Qi (fun (r : Int32) (w : XS) => Post r w) (jx_B D dA K) (AX K sz)) 0 0 (AX K sz) := by
  refine jx_start hfl [.ref x0, .int x1] [(0, .ref x0), (1, .int x1)] (by decide) (Nat.le_of_ble_eq_true rfl) rfl (fun X hX hY hin => ?_)
  unfold xw6_wordEnd at h
  refine jj_iload_n hX dX6_wordEnd_0 1 rfl 1 rfl ?_
  refine jj_istore_n (lv2 := [(0, .ref x0), (2, .int x1)]) hX dX6_wordEnd_1 (Nat.le_of_ble_eq_true rfl) [1, 0] rfl 2 rfl ?_
  obtain ⟨n9, h⟩ := h
  exact txw6_wordEnd_L2 hX hY n9 _ _ h
theorem hd_xw6_wordEnd : yX6_wordEnd.cls ≠ "java/lang/invoke/MethodHandle" ∧ yX6_wordEnd.cls ≠ "java/lang/invoke/VarHandle" ∧ (parseMethodDescriptor yX6_wordEnd.desc).map (fun d => d.parameters.length) = some 1 := by decide +kernel
theorem kxw6_wordEnd {X : JC} {A : Nat → Prop} {Q : State → Prop} {nL k n pc : Nat} {lv : List (Nat × Value)} {st : List Value} {own : String} {cc : ByteArray} {ret : Option FieldType} {F LL mc ms ix : Nat} {D : va_G} {dA aK aV : Nat → Nat} {K : XK} {u : XS} {x0 : Nat} {x1 : Int32} {Post : Int32 → XS → Prop} (hX : JX X own cc nL ret F LL mc ms) (hY : JY X D dA aK aV A) (h1a : K x0 = (1, 6)) (hlk : (Cond.methodLink own ix yX6_wordEnd) ∈ lw_all) (hF : 2 + 1 ≤ F) (hL : 8 + (3 + 11) + 40 ≤ LL) (hk : k ≤ mc) (hk2 : n ≤ ms) (hw : (st.map fun v => v.category).sum ≤ 8) (d : decode cc pc = .ok (.invokevirtual ix, 3)) (q : Nat) (hq : pc + 3 = q) (h : xw6_wordEnd x0 x1 K u  Post) (kk : ∀ (r : Int32) (u2 : XS), Post r u2 → JJ X A Q nL (XP D dA A K u2) k n q lv (.int r :: st)) : JJ X A Q nL (XP D dA A K u) k n pc lv (.int x1 :: .ref x0 :: st) :=
  jx_callVi (na := 1) (As := [.int x1]) hX hY jf6 h1a (fun sz => mxw6_wordEnd (jj_l X) hY.2.2.2.2 D dA aK aV x0 x1 K u  Post h sz) hlk q908 q909 q128 q910 ⟨rfl, hd_xw6_wordEnd⟩ rfl rfl hw hF hL hk hk2 d q hq kk
theorem knxw6_wordEnd {X : JC} {A : Nat → Prop} {Q : State → Prop} {nL k n pc : Nat} {lv : List (Nat × Value)} {st : List Value} {own : String} {cc : ByteArray} {ret : Option FieldType} {F LL mc ms ix : Nat} {D : va_G} {dA aK aV : Nat → Nat} {K : XK} {u : XS} {x0 : Nat} {x1 : Int32} {host : String} {Post : Int32 → XS → Prop} (hX : JX X own cc nL ret F LL mc ms) (hY : JY X D dA aK aV A) (h1a : K x0 = (1, 6)) (hlk : (Cond.methodLinkNest own ix yX6_wordEnd host) ∈ jx_nest) (hF : 2 + 1 ≤ F) (hL : 8 + (3 + 11) + 40 ≤ LL) (hk : k ≤ mc) (hk2 : n ≤ ms) (hw : (st.map fun v => v.category).sum ≤ 8) (d : decode cc pc = .ok (.invokevirtual ix, 3)) (q : Nat) (hq : pc + 3 = q) (h : xw6_wordEnd x0 x1 K u  Post) (kk : ∀ (r : Int32) (u2 : XS), Post r u2 → JJ X A Q nL (XP D dA A K u2) k n q lv (.int r :: st)) : JJ X A Q nL (XP D dA A K u) k n pc lv (.int x1 :: .ref x0 :: st) :=
  jx_callNi (na := 1) (As := [.int x1]) hX hY jf6 h1a (fun sz => mxw6_wordEnd (jj_l X) hY.2.2.2.2 D dA aK aV x0 x1 K u  Post h sz) hlk q908 q909 q128 q910 hd_xw6_wordEnd rfl rfl hw hF hL hk hk2 d q hq kk
/-- RaisedPress$Setter.isThere(I)Z -/
def xw6_isThere (x0 : Nat) (x1 : Int32) (K : XK) (u : XS) (Post : Int32 → XS → Prop) : Prop :=
  K x0 = (1, 6) ∧
  (¬ (((xi u x0 1) >>> (x1 &&& 31)) &&& (1 : Int32)) = 0 →
    Post (0 : Int32) u) ∧
  ((((xi u x0 1) >>> (x1 &&& 31)) &&& (1 : Int32)) = 0 →
    Post (1 : Int32) u)
set_option maxHeartbeats 4000000 in
set_option maxRecDepth 100000 in
theorem mxw6_isThere (l : Launch) (hfl : l.stackTraces = false) (D : va_G) (dA aK aV : Nat → Nat) (x0 : Nat) (x1 : Int32) (K : XK) (u : XS) (Post : Int32 → XS → Prop) (h : xw6_isThere x0 x1 K u Post) (sz : Nat) : Met l yX6_isThere (ws_ yX6_isThere cX6_isThere 2 (Option.some Jvm.ClassFile.FieldType.boolean)) (jx_rm 0 0 0 0) (jx_Pc D dA aK aV K u sz [.ref x0, .int x1]) (va_Qi (fun (r : Int32) (w : XS) => Post r w ∧ jj_z r) (jx_B D dA K) (AX K sz)) 0 0 (AX K sz) := by
  refine jx_start hfl [.ref x0, .int x1] [(0, .ref x0), (1, .int x1)] (by decide) (Nat.le_of_ble_eq_true rfl) rfl (fun X hX hY hin => ?_)
  unfold xw6_isThere at h
  refine jj_aload_n hX dX6_isThere_0 0 rfl 1 rfl ?_
  obtain ⟨k1, h⟩ := h
  refine xg6_1 hX hY k1 dX6_isThere_1 q336 4 rfl ?_
  refine jj_iload_n hX dX6_isThere_4 1 rfl 5 rfl ?_
  refine jj_ishr hX dX6_isThere_5 6 rfl ?_
  refine jj_iconst hX dX6_isThere_6 ci_1 7 rfl ?_
  refine jj_iand hX dX6_isThere_7 8 rfl ?_
  refine jj_if_ne hX dX6_isThere_8 15 11 (by decide) rfl (fun c8 => ?_) (fun c8 => ?_)
  · have h := h.1 c8
    refine jj_iconst hX dX6_isThere_15 ci_0 16 rfl ?_
    exact jj_retz (post := (fun (r : Int32) (w : XS) => Post r w)) (u := u) hX dX6_isThere_16 (Nat.le_refl 0) (Nat.le_refl 0) jx_hB jj_z0 h
  · have h := h.2 c8
    refine jj_iconst hX dX6_isThere_11 ci_1 12 rfl ?_
    refine jj_goto hX dX6_isThere_12 16 (by decide) ?_
    exact jj_retz (post := (fun (r : Int32) (w : XS) => Post r w)) (u := u) hX dX6_isThere_16 (Nat.le_refl 0) (Nat.le_refl 0) jx_hB jj_z1 h
theorem hd_xw6_isThere : yX6_isThere.cls ≠ "java/lang/invoke/MethodHandle" ∧ yX6_isThere.cls ≠ "java/lang/invoke/VarHandle" ∧ (parseMethodDescriptor yX6_isThere.desc).map (fun d => d.parameters.length) = some 1 := by decide +kernel
theorem kxw6_isThere {X : JC} {A : Nat → Prop} {Q : State → Prop} {nL k n pc : Nat} {lv : List (Nat × Value)} {st : List Value} {own : String} {cc : ByteArray} {ret : Option FieldType} {F LL mc ms ix : Nat} {D : va_G} {dA aK aV : Nat → Nat} {K : XK} {u : XS} {x0 : Nat} {x1 : Int32} {Post : Int32 → XS → Prop} (hX : JX X own cc nL ret F LL mc ms) (hY : JY X D dA aK aV A) (h1a : K x0 = (1, 6)) (hlk : (Cond.methodLink own ix yX6_isThere) ∈ lw_all) (hF : 0 + 1 ≤ F) (hL : 8 + (2 + 11) + 0 ≤ LL) (hk : k ≤ mc) (hk2 : n ≤ ms) (hw : (st.map fun v => v.category).sum ≤ 8) (d : decode cc pc = .ok (.invokevirtual ix, 3)) (q : Nat) (hq : pc + 3 = q) (h : xw6_isThere x0 x1 K u  Post) (kk : ∀ (r : Int32) (u2 : XS), jj_z r → Post r u2 → JJ X A Q nL (XP D dA A K u2) k n q lv (.int r :: st)) : JJ X A Q nL (XP D dA A K u) k n pc lv (.int x1 :: .ref x0 :: st) :=
  jx_callVz (na := 1) (As := [.int x1]) hX hY jf6 h1a (fun sz => mxw6_isThere (jj_l X) hY.2.2.2.2 D dA aK aV x0 x1 K u  Post h sz) hlk q921 qs24 q128 q922 ⟨rfl, hd_xw6_isThere⟩ rfl rfl hw hF hL hk hk2 d q hq kk
theorem knxw6_isThere {X : JC} {A : Nat → Prop} {Q : State → Prop} {nL k n pc : Nat} {lv : List (Nat × Value)} {st : List Value} {own : String} {cc : ByteArray} {ret : Option FieldType} {F LL mc ms ix : Nat} {D : va_G} {dA aK aV : Nat → Nat} {K : XK} {u : XS} {x0 : Nat} {x1 : Int32} {host : String} {Post : Int32 → XS → Prop} (hX : JX X own cc nL ret F LL mc ms) (hY : JY X D dA aK aV A) (h1a : K x0 = (1, 6)) (hlk : (Cond.methodLinkNest own ix yX6_isThere host) ∈ jx_nest) (hF : 0 + 1 ≤ F) (hL : 8 + (2 + 11) + 0 ≤ LL) (hk : k ≤ mc) (hk2 : n ≤ ms) (hw : (st.map fun v => v.category).sum ≤ 8) (d : decode cc pc = .ok (.invokevirtual ix, 3)) (q : Nat) (hq : pc + 3 = q) (h : xw6_isThere x0 x1 K u  Post) (kk : ∀ (r : Int32) (u2 : XS), jj_z r → Post r u2 → JJ X A Q nL (XP D dA A K u2) k n q lv (.int r :: st)) : JJ X A Q nL (XP D dA A K u) k n pc lv (.int x1 :: .ref x0 :: st) :=
  jx_callNz (na := 1) (As := [.int x1]) hX hY jf6 h1a (fun sz => mxw6_isThere (jj_l X) hY.2.2.2.2 D dA aK aV x0 x1 K u  Post h sz) hlk q921 qs24 q128 q922 hd_xw6_isThere rfl rfl hw hF hL hk hk2 d q hq kk
/-- RaisedPress$Begin.may(ZZ)Z -/
def xw10_may (x0 : Nat) (x1 : Int32) (x2 : Int32) (K : XK) (u : XS) (Post : Int32 → XS → Prop) : Prop :=
  (x1 = 0 →
    Post (0 : Int32) u) ∧
  (¬ x1 = 0 →
    (¬ x2 = 0 →
      Post (0 : Int32) u) ∧
    (x2 = 0 →
      Post (1 : Int32) u))
set_option maxHeartbeats 4000000 in
set_option maxRecDepth 100000 in
theorem mxw10_may (l : Launch) (hfl : l.stackTraces = false) (D : va_G) (dA aK aV : Nat → Nat) (x0 : Nat) (x1 : Int32) (x2 : Int32) (K : XK) (u : XS) (Post : Int32 → XS → Prop) (h : xw10_may x0 x1 x2 K u Post) (sz : Nat) : Met l yX10_may (ws_ yX10_may cX10_may 3 (Option.some Jvm.ClassFile.FieldType.boolean)) (jx_rm 0 0 0 0) (jx_Pc D dA aK aV K u sz [.ref x0, .int x1, .int x2]) (va_Qi (fun (r : Int32) (w : XS) => Post r w ∧ jj_z r) (jx_B D dA K) (AX K sz)) 0 0 (AX K sz) := by
  refine jx_start hfl [.ref x0, .int x1, .int x2] [(0, .ref x0), (1, .int x1), (2, .int x2)] (by decide) (Nat.le_of_ble_eq_true rfl) rfl (fun X hX hY hin => ?_)
  unfold xw10_may at h
  refine jj_iload_n hX dX10_may_0 1 rfl 1 rfl ?_
  refine jj_if_eq hX dX10_may_1 12 4 (by decide) rfl (fun c1 => ?_) (fun c1 => ?_)
  · have h := h.1 c1
    refine jj_iconst hX dX10_may_12 ci_0 13 rfl ?_
    exact jj_retz (post := (fun (r : Int32) (w : XS) => Post r w)) (u := u) hX dX10_may_13 (Nat.le_refl 0) (Nat.le_refl 0) jx_hB jj_z0 h
  · have h := h.2 c1
    refine jj_iload_n hX dX10_may_4 2 rfl 5 rfl ?_
    refine jj_if_ne hX dX10_may_5 12 8 (by decide) rfl (fun c5 => ?_) (fun c5 => ?_)
    · have h := h.1 c5
      refine jj_iconst hX dX10_may_12 ci_0 13 rfl ?_
      exact jj_retz (post := (fun (r : Int32) (w : XS) => Post r w)) (u := u) hX dX10_may_13 (Nat.le_refl 0) (Nat.le_refl 0) jx_hB jj_z0 h
    · have h := h.2 c5
      refine jj_iconst hX dX10_may_8 ci_1 9 rfl ?_
      refine jj_goto hX dX10_may_9 13 (by decide) ?_
      exact jj_retz (post := (fun (r : Int32) (w : XS) => Post r w)) (u := u) hX dX10_may_13 (Nat.le_refl 0) (Nat.le_refl 0) jx_hB jj_z1 h
theorem hd_xw10_may : yX10_may.cls ≠ "java/lang/invoke/MethodHandle" ∧ yX10_may.cls ≠ "java/lang/invoke/VarHandle" ∧ (parseMethodDescriptor yX10_may.desc).map (fun d => d.parameters.length) = some 2 := by decide +kernel
/-- RaisedPress$Middle.may(ZZ)Z -/
def xw11_may (x0 : Nat) (x1 : Int32) (x2 : Int32) (K : XK) (u : XS) (Post : Int32 → XS → Prop) : Prop :=
  (¬ x1 = 0 →
    Post (0 : Int32) u) ∧
  (x1 = 0 →
    (¬ x2 = 0 →
      Post (0 : Int32) u) ∧
    (x2 = 0 →
      Post (1 : Int32) u))
set_option maxHeartbeats 4000000 in
set_option maxRecDepth 100000 in
theorem mxw11_may (l : Launch) (hfl : l.stackTraces = false) (D : va_G) (dA aK aV : Nat → Nat) (x0 : Nat) (x1 : Int32) (x2 : Int32) (K : XK) (u : XS) (Post : Int32 → XS → Prop) (h : xw11_may x0 x1 x2 K u Post) (sz : Nat) : Met l yX11_may (ws_ yX11_may cX11_may 3 (Option.some Jvm.ClassFile.FieldType.boolean)) (jx_rm 0 0 0 0) (jx_Pc D dA aK aV K u sz [.ref x0, .int x1, .int x2]) (va_Qi (fun (r : Int32) (w : XS) => Post r w ∧ jj_z r) (jx_B D dA K) (AX K sz)) 0 0 (AX K sz) := by
  refine jx_start hfl [.ref x0, .int x1, .int x2] [(0, .ref x0), (1, .int x1), (2, .int x2)] (by decide) (Nat.le_of_ble_eq_true rfl) rfl (fun X hX hY hin => ?_)
  unfold xw11_may at h
  refine jj_iload_n hX dX11_may_0 1 rfl 1 rfl ?_
  refine jj_if_ne hX dX11_may_1 12 4 (by decide) rfl (fun c1 => ?_) (fun c1 => ?_)
  · have h := h.1 c1
    refine jj_iconst hX dX11_may_12 ci_0 13 rfl ?_
    exact jj_retz (post := (fun (r : Int32) (w : XS) => Post r w)) (u := u) hX dX11_may_13 (Nat.le_refl 0) (Nat.le_refl 0) jx_hB jj_z0 h
  · have h := h.2 c1
    refine jj_iload_n hX dX11_may_4 2 rfl 5 rfl ?_
    refine jj_if_ne hX dX11_may_5 12 8 (by decide) rfl (fun c5 => ?_) (fun c5 => ?_)
    · have h := h.1 c5
      refine jj_iconst hX dX11_may_12 ci_0 13 rfl ?_
      exact jj_retz (post := (fun (r : Int32) (w : XS) => Post r w)) (u := u) hX dX11_may_13 (Nat.le_refl 0) (Nat.le_refl 0) jx_hB jj_z0 h
    · have h := h.2 c5
      refine jj_iconst hX dX11_may_8 ci_1 9 rfl ?_
      refine jj_goto hX dX11_may_9 13 (by decide) ?_
      exact jj_retz (post := (fun (r : Int32) (w : XS) => Post r w)) (u := u) hX dX11_may_13 (Nat.le_refl 0) (Nat.le_refl 0) jx_hB jj_z1 h
theorem hd_xw11_may : yX11_may.cls ≠ "java/lang/invoke/MethodHandle" ∧ yX11_may.cls ≠ "java/lang/invoke/VarHandle" ∧ (parseMethodDescriptor yX11_may.desc).map (fun d => d.parameters.length) = some 2 := by decide +kernel
/-- RaisedPress$Ending.may(ZZ)Z -/
def xw12_may (x0 : Nat) (x1 : Int32) (x2 : Int32) (K : XK) (u : XS) (Post : Int32 → XS → Prop) : Prop :=
  (¬ x1 = 0 →
    Post (0 : Int32) u) ∧
  (x1 = 0 →
    (x2 = 0 →
      Post (0 : Int32) u) ∧
    (¬ x2 = 0 →
      Post (1 : Int32) u))
set_option maxHeartbeats 4000000 in
set_option maxRecDepth 100000 in
theorem mxw12_may (l : Launch) (hfl : l.stackTraces = false) (D : va_G) (dA aK aV : Nat → Nat) (x0 : Nat) (x1 : Int32) (x2 : Int32) (K : XK) (u : XS) (Post : Int32 → XS → Prop) (h : xw12_may x0 x1 x2 K u Post) (sz : Nat) : Met l yX12_may (ws_ yX12_may cX12_may 3 (Option.some Jvm.ClassFile.FieldType.boolean)) (jx_rm 0 0 0 0) (jx_Pc D dA aK aV K u sz [.ref x0, .int x1, .int x2]) (va_Qi (fun (r : Int32) (w : XS) => Post r w ∧ jj_z r) (jx_B D dA K) (AX K sz)) 0 0 (AX K sz) := by
  refine jx_start hfl [.ref x0, .int x1, .int x2] [(0, .ref x0), (1, .int x1), (2, .int x2)] (by decide) (Nat.le_of_ble_eq_true rfl) rfl (fun X hX hY hin => ?_)
  unfold xw12_may at h
  refine jj_iload_n hX dX12_may_0 1 rfl 1 rfl ?_
  refine jj_if_ne hX dX12_may_1 12 4 (by decide) rfl (fun c1 => ?_) (fun c1 => ?_)
  · have h := h.1 c1
    refine jj_iconst hX dX12_may_12 ci_0 13 rfl ?_
    exact jj_retz (post := (fun (r : Int32) (w : XS) => Post r w)) (u := u) hX dX12_may_13 (Nat.le_refl 0) (Nat.le_refl 0) jx_hB jj_z0 h
  · have h := h.2 c1
    refine jj_iload_n hX dX12_may_4 2 rfl 5 rfl ?_
    refine jj_if_eq hX dX12_may_5 12 8 (by decide) rfl (fun c5 => ?_) (fun c5 => ?_)
    · have h := h.1 c5
      refine jj_iconst hX dX12_may_12 ci_0 13 rfl ?_
      exact jj_retz (post := (fun (r : Int32) (w : XS) => Post r w)) (u := u) hX dX12_may_13 (Nat.le_refl 0) (Nat.le_refl 0) jx_hB jj_z0 h
    · have h := h.2 c5
      refine jj_iconst hX dX12_may_8 ci_1 9 rfl ?_
      refine jj_goto hX dX12_may_9 13 (by decide) ?_
      exact jj_retz (post := (fun (r : Int32) (w : XS) => Post r w)) (u := u) hX dX12_may_13 (Nat.le_refl 0) (Nat.le_refl 0) jx_hB jj_z1 h
theorem hd_xw12_may : yX12_may.cls ≠ "java/lang/invoke/MethodHandle" ∧ yX12_may.cls ≠ "java/lang/invoke/VarHandle" ∧ (parseMethodDescriptor yX12_may.desc).map (fun d => d.parameters.length) = some 2 := by decide +kernel
/-- RaisedPress$Alone.may(ZZ)Z -/
def xw13_may (x0 : Nat) (x1 : Int32) (x2 : Int32) (K : XK) (u : XS) (Post : Int32 → XS → Prop) : Prop :=
  (x1 = 0 →
    Post (0 : Int32) u) ∧
  (¬ x1 = 0 →
    (x2 = 0 →
      Post (0 : Int32) u) ∧
    (¬ x2 = 0 →
      Post (1 : Int32) u))
set_option maxHeartbeats 4000000 in
set_option maxRecDepth 100000 in
theorem mxw13_may (l : Launch) (hfl : l.stackTraces = false) (D : va_G) (dA aK aV : Nat → Nat) (x0 : Nat) (x1 : Int32) (x2 : Int32) (K : XK) (u : XS) (Post : Int32 → XS → Prop) (h : xw13_may x0 x1 x2 K u Post) (sz : Nat) : Met l yX13_may (ws_ yX13_may cX13_may 3 (Option.some Jvm.ClassFile.FieldType.boolean)) (jx_rm 0 0 0 0) (jx_Pc D dA aK aV K u sz [.ref x0, .int x1, .int x2]) (va_Qi (fun (r : Int32) (w : XS) => Post r w ∧ jj_z r) (jx_B D dA K) (AX K sz)) 0 0 (AX K sz) := by
  refine jx_start hfl [.ref x0, .int x1, .int x2] [(0, .ref x0), (1, .int x1), (2, .int x2)] (by decide) (Nat.le_of_ble_eq_true rfl) rfl (fun X hX hY hin => ?_)
  unfold xw13_may at h
  refine jj_iload_n hX dX13_may_0 1 rfl 1 rfl ?_
  refine jj_if_eq hX dX13_may_1 12 4 (by decide) rfl (fun c1 => ?_) (fun c1 => ?_)
  · have h := h.1 c1
    refine jj_iconst hX dX13_may_12 ci_0 13 rfl ?_
    exact jj_retz (post := (fun (r : Int32) (w : XS) => Post r w)) (u := u) hX dX13_may_13 (Nat.le_refl 0) (Nat.le_refl 0) jx_hB jj_z0 h
  · have h := h.2 c1
    refine jj_iload_n hX dX13_may_4 2 rfl 5 rfl ?_
    refine jj_if_eq hX dX13_may_5 12 8 (by decide) rfl (fun c5 => ?_) (fun c5 => ?_)
    · have h := h.1 c5
      refine jj_iconst hX dX13_may_12 ci_0 13 rfl ?_
      exact jj_retz (post := (fun (r : Int32) (w : XS) => Post r w)) (u := u) hX dX13_may_13 (Nat.le_refl 0) (Nat.le_refl 0) jx_hB jj_z0 h
    · have h := h.2 c5
      refine jj_iconst hX dX13_may_8 ci_1 9 rfl ?_
      refine jj_goto hX dX13_may_9 13 (by decide) ?_
      exact jj_retz (post := (fun (r : Int32) (w : XS) => Post r w)) (u := u) hX dX13_may_13 (Nat.le_refl 0) (Nat.le_refl 0) jx_hB jj_z1 h
theorem hd_xw13_may : yX13_may.cls ≠ "java/lang/invoke/MethodHandle" ∧ yX13_may.cls ≠ "java/lang/invoke/VarHandle" ∧ (parseMethodDescriptor yX13_may.desc).map (fun d => d.parameters.length) = some 2 := by decide +kernel
/-- RaisedPress$Anywhere.may(ZZ)Z -/
def xw14_may (x0 : Nat) (x1 : Int32) (x2 : Int32) (K : XK) (u : XS) (Post : Int32 → XS → Prop) : Prop :=
  Post (1 : Int32) u
set_option maxHeartbeats 4000000 in
set_option maxRecDepth 100000 in
theorem mxw14_may (l : Launch) (hfl : l.stackTraces = false) (D : va_G) (dA aK aV : Nat → Nat) (x0 : Nat) (x1 : Int32) (x2 : Int32) (K : XK) (u : XS) (Post : Int32 → XS → Prop) (h : xw14_may x0 x1 x2 K u Post) (sz : Nat) : Met l yX14_may (ws_ yX14_may cX14_may 3 (Option.some Jvm.ClassFile.FieldType.boolean)) (jx_rm 0 0 0 0) (jx_Pc D dA aK aV K u sz [.ref x0, .int x1, .int x2]) (va_Qi (fun (r : Int32) (w : XS) => Post r w ∧ jj_z r) (jx_B D dA K) (AX K sz)) 0 0 (AX K sz) := by
  refine jx_start hfl [.ref x0, .int x1, .int x2] [(0, .ref x0), (1, .int x1), (2, .int x2)] (by decide) (Nat.le_of_ble_eq_true rfl) rfl (fun X hX hY hin => ?_)
  unfold xw14_may at h
  refine jj_iconst hX dX14_may_0 ci_1 1 rfl ?_
  exact jj_retz (post := (fun (r : Int32) (w : XS) => Post r w)) (u := u) hX dX14_may_1 (Nat.le_refl 0) (Nat.le_refl 0) jx_hB jj_z1 h
theorem hd_xw14_may : yX14_may.cls ≠ "java/lang/invoke/MethodHandle" ∧ yX14_may.cls ≠ "java/lang/invoke/VarHandle" ∧ (parseMethodDescriptor yX14_may.desc).map (fun d => d.parameters.length) = some 2 := by decide +kernel
def xabs_may (x0 : Nat) (x1 : Int32) (x2 : Int32) (K : XK) (u : XS) (Post : Int32 → XS → Prop) : Prop :=
  (K x0 = (1, 10) → xw10_may x0 x1 x2 K u Post) ∧
  (K x0 = (1, 11) → xw11_may x0 x1 x2 K u Post) ∧
  (K x0 = (1, 12) → xw12_may x0 x1 x2 K u Post) ∧
  (K x0 = (1, 13) → xw13_may x0 x1 x2 K u Post) ∧
  (K x0 = (1, 14) → xw14_may x0 x1 x2 K u Post)
def yR_may : MethodName := ⟨"RaisedPress$Rule", "may", "(ZZ)Z"⟩
theorem hd_xabs_may : "RaisedPress$Rule" ≠ "java/lang/invoke/MethodHandle" ∧ "RaisedPress$Rule" ≠ "java/lang/invoke/VarHandle" ∧ (parseMethodDescriptor yR_may.desc).map (fun d => d.parameters.length) = some 2 := by decide +kernel
theorem kxabs_may {X : JC} {A : Nat → Prop} {Q : State → Prop} {nL k n pc : Nat} {lv : List (Nat × Value)} {st : List Value} {own : String} {cc : ByteArray} {ret : Option FieldType} {F LL mc ms ix : Nat} {D : va_G} {dA aK aV : Nat → Nat} {K : XK} {u : XS} {x0 : Nat} {x1 : Int32} {x2 : Int32} {Post : Int32 → XS → Prop} (hX : JX X own cc nL ret F LL mc ms) (hY : JY X D dA aK aV A) (hr : xRule K x0) (hlk : (Cond.methodLink own ix yR_may) ∈ lw_all) (hF : 0 + 1 ≤ F) (hL : 8 + (3 + 11) + 0 ≤ LL) (hk : k ≤ mc) (hk2 : n ≤ ms) (hw : (st.map fun v => v.category).sum ≤ 8) (d : decode cc pc = .ok (.invokevirtual ix, 3)) (q : Nat) (hq : pc + 3 = q) (h : xabs_may x0 x1 x2 K u Post) (kk : ∀ (r : Int32) (u2 : XS), jj_z r → Post r u2 → JJ X A Q nL (XP D dA A K u2) k n q lv (.int r :: st)) : JJ X A Q nL (XP D dA A K u) k n pc lv (.int x2 :: .int x1 :: .ref x0 :: st) := by
  obtain ⟨c, c1, c2, h1a⟩ := hr
  rcases (show c = 10 ∨ c = 11 ∨ c = 12 ∨ c = 13 ∨ c = 14 by omega) with rfl | rfl | rfl | rfl | rfl
  · exact jx_callUz (na := 2) (As := [.int x1, .int x2]) (C := RX10) (xm := yR_may) (owner := "RaisedPress$Rule") hX hY jf10 h1a (fun sz => mxw10_may (jj_l X) hY.2.2.2.2 D dA aK aV x0 x1 x2 K u Post (h.1 h1a) sz) (va_cwA 2 hX.2.2.2.2.1 (lw_U hlk q925 q932 q933 q141 q934) rfl rfl rfl (va_Nw.of rfl (hY.2.1.use (A := #[]) nq924)) hd_xabs_may ⟨by rw [hX.2.2.2.2.2.2.2.1]; omega, by rw [hX.2.2.2.2.2.2.2.2.1]; omega⟩) rfl rfl hw hk hk2 d q hq kk
  · exact jx_callUz (na := 2) (As := [.int x1, .int x2]) (C := RX11) (xm := yR_may) (owner := "RaisedPress$Rule") hX hY jf11 h1a (fun sz => mxw11_may (jj_l X) hY.2.2.2.2 D dA aK aV x0 x1 x2 K u Post (h.2.1 h1a) sz) (va_cwA 2 hX.2.2.2.2.1 (lw_U hlk q925 q938 q939 q142 q940) rfl rfl rfl (va_Nw.of rfl (hY.2.1.use (A := #[]) nq924)) hd_xabs_may ⟨by rw [hX.2.2.2.2.2.2.2.1]; omega, by rw [hX.2.2.2.2.2.2.2.2.1]; omega⟩) rfl rfl hw hk hk2 d q hq kk
  · exact jx_callUz (na := 2) (As := [.int x1, .int x2]) (C := RX12) (xm := yR_may) (owner := "RaisedPress$Rule") hX hY jf12 h1a (fun sz => mxw12_may (jj_l X) hY.2.2.2.2 D dA aK aV x0 x1 x2 K u Post (h.2.2.1 h1a) sz) (va_cwA 2 hX.2.2.2.2.1 (lw_U hlk q925 q935 q936 q143 q937) rfl rfl rfl (va_Nw.of rfl (hY.2.1.use (A := #[]) nq924)) hd_xabs_may ⟨by rw [hX.2.2.2.2.2.2.2.1]; omega, by rw [hX.2.2.2.2.2.2.2.2.1]; omega⟩) rfl rfl hw hk hk2 d q hq kk
  · exact jx_callUz (na := 2) (As := [.int x1, .int x2]) (C := RX13) (xm := yR_may) (owner := "RaisedPress$Rule") hX hY jf13 h1a (fun sz => mxw13_may (jj_l X) hY.2.2.2.2 D dA aK aV x0 x1 x2 K u Post (h.2.2.2.1 h1a) sz) (va_cwA 2 hX.2.2.2.2.1 (lw_U hlk q925 q926 q927 q144 q928) rfl rfl rfl (va_Nw.of rfl (hY.2.1.use (A := #[]) nq924)) hd_xabs_may ⟨by rw [hX.2.2.2.2.2.2.2.1]; omega, by rw [hX.2.2.2.2.2.2.2.2.1]; omega⟩) rfl rfl hw hk hk2 d q hq kk
  · exact jx_callUz (na := 2) (As := [.int x1, .int x2]) (C := RX14) (xm := yR_may) (owner := "RaisedPress$Rule") hX hY jf14 h1a (fun sz => mxw14_may (jj_l X) hY.2.2.2.2 D dA aK aV x0 x1 x2 K u Post (h.2.2.2.2 h1a) sz) (va_cwA 2 hX.2.2.2.2.1 (lw_U hlk q925 q929 q930 q145 q931) rfl rfl rfl (va_Nw.of rfl (hY.2.1.use (A := #[]) nq924)) hd_xabs_may ⟨by rw [hX.2.2.2.2.2.2.2.1]; omega, by rw [hX.2.2.2.2.2.2.2.2.1]; omega⟩) rfl rfl hw hk hk2 d q hq kk
/-- RaisedPress.small(I)I -/
def xs_small (x0 : Int32) (Post : Int32 → Prop) : Prop :=
  xs_isGreat x0 (fun r1 =>
    (r1 = 0 →
      Post x0) ∧
    (¬ r1 = 0 →
      Post (x0 + (32 : Int32))))
set_option maxHeartbeats 4000000 in
set_option maxRecDepth 100000 in
theorem mxs_small (l : Launch) (x0 : Int32) (Post : Int32 → Prop) (h : xs_small x0 Post) : Met l yX0_small (ws_ yX0_small cX0_small 1 (Option.some Jvm.ClassFile.FieldType.int)) (jm_rm 1 20) (js_Pc [.int x0]) (va_Qi (fun r (_ : Unit) => Post r) js_B js_A) 0 0 js_A := by
  refine js_start [.int x0] [(0, .int x0)] (by decide) (Nat.le_of_ble_eq_true rfl) rfl (fun X hX => ?_)
  unfold xs_small at h
  refine jj_iload_n hX dX0_small_0 0 rfl 1 rfl ?_
  refine kxs_isGreat hX js_keepP q900 (Nat.le_of_ble_eq_true rfl) (Nat.le_of_ble_eq_true rfl) (Nat.zero_le _) (Nat.zero_le _) (Nat.le_of_ble_eq_true rfl) dX0_small_1 4 rfl h (fun r1 hb1 h => ?_)
  refine jj_if_eq hX dX0_small_4 14 7 (by decide) rfl (fun c4 => ?_) (fun c4 => ?_)
  · have h := h.1 c4
    refine jj_iload_n hX dX0_small_14 0 rfl 15 rfl ?_
    exact jj_reti (post := (fun r (_ : Unit) => Post r)) (u := ()) hX dX0_small_15 (Nat.le_refl 0) (Nat.le_refl 0) js_hB h
  · have h := h.2 c4
    refine jj_iload_n hX dX0_small_7 0 rfl 8 rfl ?_
    refine jj_bipush hX dX0_small_8 cb_32 10 rfl ?_
    refine jj_iadd hX dX0_small_10 11 rfl ?_
    refine jj_goto hX dX0_small_11 15 (by decide) ?_
    exact jj_reti (post := (fun r (_ : Unit) => Post r)) (u := ()) hX dX0_small_15 (Nat.le_refl 0) (Nat.le_refl 0) js_hB h
theorem hd_xs_small : yX0_small.cls ≠ "java/lang/invoke/MethodHandle" ∧ yX0_small.cls ≠ "java/lang/invoke/VarHandle" ∧ (parseMethodDescriptor yX0_small.desc).map (fun d => d.parameters.length) = some 1 := by decide +kernel
theorem kxs_small {X : JC} {A : Nat → Prop} {Q : State → Prop} {P : Heap → Prop} {nL k n pc : Nat} {lv : List (Nat × Value)} {st : List Value} {own : String} {cc : ByteArray} {ret : Option FieldType} {F LL mc ms ix : Nat} {x0 : Int32} {Post : Int32 → Prop} (hX : JX X own cc nL ret F LL mc ms) (hKP : jj_Keeps P) (hlk : (Cond.methodLink own ix yX0_small) ∈ lw_all) (hF : 1 + 1 ≤ F) (hL : 8 + (1 + 11) + 20 ≤ LL) (hk : k ≤ mc) (hk2 : n ≤ ms) (hw : (st.map fun v => v.category).sum ≤ 8) (d : decode cc pc = .ok (.invokestatic ix, 3)) (q : Nat) (hq : pc + 3 = q) (h : xs_small x0 Post) (kk : ∀ r : Int32, Post r → JJ X A Q nL P k n q lv (.int r :: st)) : JJ X A Q nL P k n pc lv (.int x0 :: st) :=
  js_calli (na := 1) (As := [.int x0]) hX hKP (mxs_small (jj_l X) x0 Post h) hlk q943 q120 q944 hd_xs_small rfl rfl hw hF hL hk hk2 d q hq kk
theorem knxs_small {X : JC} {A : Nat → Prop} {Q : State → Prop} {P : Heap → Prop} {nL k n pc : Nat} {lv : List (Nat × Value)} {st : List Value} {own host : String} {cc : ByteArray} {ret : Option FieldType} {F LL mc ms ix : Nat} {x0 : Int32} {Post : Int32 → Prop} (hX : JX X own cc nL ret F LL mc ms) (hKP : jj_Keeps P) (hN : JN (jj_s X)) (hlk : (Cond.methodLinkNest own ix yX0_small host) ∈ jx_nest) (hF : 1 + 1 ≤ F) (hL : 8 + (1 + 11) + 20 ≤ LL) (hk : k ≤ mc) (hk2 : n ≤ ms) (hw : (st.map fun v => v.category).sum ≤ 8) (d : decode cc pc = .ok (.invokestatic ix, 3)) (q : Nat) (hq : pc + 3 = q) (h : xs_small x0 Post) (kk : ∀ r : Int32, Post r → JJ X A Q nL P k n q lv (.int r :: st)) : JJ X A Q nL P k n pc lv (.int x0 :: st) :=
  js_callNi (na := 1) (As := [.int x0]) hX hKP hN (mxs_small (jj_l X) x0 Post h) hlk q943 q120 q944 hd_xs_small rfl rfl hw hF hL hk hk2 d q hq kk
def xw6_stands_B100 (G73 : Int32 → XS → Prop) (Post : Int32 → XS → Prop) (K : XK) (x0 : Nat) (x2 : Int32) (x5 : Nat) (x6 : Int32) (x7 : Int32) (u : XS) : Prop :=
  K x0 = (1, 6) ∧
  ∃ b108, (xr u x0 2) = some b108 ∧
  ∃ n108, K b108 = (3, n108) ∧
  vp_in (x2 + x7) n108 ∧
  xs_small (xi u b108 (x2 + x7).toNatClampNeg) (fun r109 =>
    xRule K x5 ∧
    ∃ b119, (xr u x5 0) = some b119 ∧
    ∃ n119, K b119 = (3, n119) ∧
    vp_in x7 n119 ∧
    (r109 = (xi u b119 x7.toNatClampNeg) →
      ∀ v125 : Int32, v125 = x7 + (1 : Int32) →
      G73 v125 u) ∧
    (¬ r109 = (xi u b119 x7.toNatClampNeg) →
      Post (0 : Int32) u))
def xw6_stands_L73_S (Post : Int32 → XS → Prop) (K : XK) (x0 : Nat) (x2 : Int32) (x5 : Nat) (x6 : Int32) (R : Int32 → XS → Prop) (x7 : Int32) (u : XS) : Prop :=
  (x6 ≤ x7 →
    Post (1 : Int32) u) ∧
  (¬ x6 ≤ x7 →
    (x7 ≤ 0 →
      xw6_stands_B100 R Post K x0 x2 x5 x6 x7 u) ∧
    (¬ x7 ≤ 0 →
      K x0 = (1, 6) ∧
      ∃ b93, (xr u x0 2) = some b93 ∧
      ∃ n93, K b93 = (3, n93) ∧
      vp_in (x2 + x7) n93 ∧
      xs_isGreat (xi u b93 (x2 + x7).toNatClampNeg) (fun r94 =>
        (¬ r94 = 0 →
          Post (0 : Int32) u) ∧
        (r94 = 0 →
          xw6_stands_B100 R Post K x0 x2 x5 x6 x7 u))))
def xw6_stands_L73 (Post : Int32 → XS → Prop) (K : XK) (x0 : Nat) (x2 : Int32) (x5 : Nat) (x6 : Int32) : Nat → Int32 → XS → Prop
  | 0 => fun _ _ => False
  | n + 1 => fun x7 u => xw6_stands_L73_S Post K x0 x2 x5 x6 (xw6_stands_L73 Post K x0 x2 x5 x6 n) x7 u
def xw6_stands_B48 (Post : Int32 → XS → Prop) (K : XK) (x0 : Nat) (x2 : Int32) (x4 : Int32) (x5 : Nat) (x6 : Int32) (s0 : Int32) (s1 : Nat) (u : XS) : Prop :=
  (¬ (x2 + x6) = x4 →
    xRule K s1 ∧
    xabs_may s1 s0 (0 : Int32) K u (fun r62 u62 =>
      (¬ r62 = 0 →
        ∃ n, xw6_stands_L73 Post K x0 x2 x5 x6 n (0 : Int32) u62) ∧
      (r62 = 0 →
        Post (0 : Int32) u62))) ∧
  ((x2 + x6) = x4 →
    xRule K s1 ∧
    xabs_may s1 s0 (1 : Int32) K u (fun r62 u62 =>
      (¬ r62 = 0 →
        ∃ n, xw6_stands_L73 Post K x0 x2 x5 x6 n (0 : Int32) u62) ∧
      (r62 = 0 →
        Post (0 : Int32) u62)))
/-- RaisedPress$Setter.stands(IIII)Z -/
def xw6_stands (x0 : Nat) (x1 : Int32) (x2 : Int32) (x3 : Int32) (x4 : Int32) (K : XK) (u : XS) (Post : Int32 → XS → Prop) : Prop :=
  K x0 = (1, 6) ∧
  ∃ b4, (xr u x0 0) = some b4 ∧
  K b4 = (1, 5) ∧
  ∃ b8, (xr u b4 0) = some b8 ∧
  ∃ n8, K b8 = (7, n8) ∧
  vp_in x1 n8 ∧
  ∃ b9, (xr u b8 x1.toNatClampNeg) = some b9 ∧
  xRule K b9 ∧
  ∃ b16, (xr u b9 0) = some b16 ∧
  ∃ n16, K b16 = (3, n16) ∧
  ∀ v17 : Int32, v17 = (nI n16) →
  xw6_isThere x0 x1 K u (fun r21 u21 =>
    (r21 = 0 →
      Post (0 : Int32) u21) ∧
    (¬ r21 = 0 →
      (x4 < (x2 + v17) →
        Post (0 : Int32) u21) ∧
      (¬ x4 < (x2 + v17) →
        (¬ x2 = x3 →
          xw6_stands_B48 Post K x0 x2 x4 b9 v17 (0 : Int32) b9 u21) ∧
        (x2 = x3 →
          xw6_stands_B48 Post K x0 x2 x4 b9 v17 (1 : Int32) b9 u21))))
set_option maxHeartbeats 4000000 in
set_option maxRecDepth 100000 in
theorem txw6_stands_B100 {X : JC} {D : va_G} {dA aK aV : Nat → Nat} {sz : Nat} {K : XK} {G73 : Int32 → XS → Prop} {Post : Int32 → XS → Prop} {x0 : Nat} {x2 : Int32} {x5 : Nat} {x6 : Int32} {x7 : Int32} {u : XS} (hX : JX X yX6_stands.cls cX6_stands 8 (Option.some Jvm.ClassFile.FieldType.boolean) 2 40 0 0) (hY : JY X D dA aK aV (AX K sz)) (hG73 : ∀ (y7 : Int32) (u : XS), G73 y7 u → JJ X (AX K sz) (jj_Q X (va_Qi (fun (r : Int32) (w : XS) => Post r w ∧ jj_z r) (jx_B D dA K) (AX K sz)) 0 0 (AX K sz)) 8 (XP D dA (AX K sz) K u) 0 0 73 [(0, .ref x0), (2, .int x2), (5, .ref x5), (6, .int x6), (7, .int y7)] []) (h : xw6_stands_B100 G73 Post K x0 x2 x5 x6 x7  u) : JJ X (AX K sz) (jj_Q X (va_Qi (fun (r : Int32) (w : XS) => Post r w ∧ jj_z r) (jx_B D dA K) (AX K sz)) 0 0 (AX K sz)) 8 (XP D dA (AX K sz) K u) 0 0 100 [(0, .ref x0), (2, .int x2), (5, .ref x5), (6, .int x6), (7, .int x7)] [] := by
  unfold xw6_stands_B100 at h
  refine jj_aload_n hX dX6_stands_100 0 rfl 101 rfl ?_
  obtain ⟨k101, h⟩ := h
  refine xg6_2 hX hY k101 dX6_stands_101 q338 104 rfl ?_
  refine jj_iload_n hX dX6_stands_104 1 rfl 105 rfl ?_
  refine jj_iload hX dX6_stands_105 4 rfl 107 rfl ?_
  refine jj_iadd hX dX6_stands_107 108 rfl ?_
  obtain ⟨b108, g108, h⟩ := h
  refine jj_st (st2 := [.int (x2 + x7), .ref b108]) (by rw [va_rf_some g108]) ?_
  obtain ⟨n108, k108, h⟩ := h
  obtain ⟨hi108, h⟩ := h
  refine jx_bald hX hY.1 k108 _ rfl hi108 dX6_stands_108 109 rfl ?_
  refine knxs_small hX XP.keeps hY.2.1 nq942 (Nat.le_of_ble_eq_true rfl) (Nat.le_of_ble_eq_true rfl) (Nat.zero_le _) (Nat.zero_le _) (Nat.le_of_ble_eq_true rfl) dX6_stands_109 112 rfl h (fun r109 h => ?_)
  refine jj_aload hX dX6_stands_112 2 rfl 114 rfl ?_
  obtain ⟨k114, h⟩ := h
  refine xgr_0 hX hY k114 dX6_stands_114 q773 117 rfl ?_
  refine jj_iload hX dX6_stands_117 4 rfl 119 rfl ?_
  obtain ⟨b119, g119, h⟩ := h
  refine jj_st (st2 := [.int x7, .ref b119, .int r109]) (by rw [va_rf_some g119]) ?_
  obtain ⟨n119, k119, h⟩ := h
  obtain ⟨hi119, h⟩ := h
  refine jx_bald hX hY.1 k119 _ rfl hi119 dX6_stands_119 120 rfl ?_
  refine jj_icmp_eq hX dX6_stands_120 125 123 (by decide) rfl (fun c120 => ?_) (fun c120 => ?_)
  · have h := h.1 c120
    obtain ⟨v125, e125⟩ : ∃ y : Int32, y = x7 + (1 : Int32) := ⟨_, rfl⟩
    have h := h v125 e125
    refine jj_iinc (v := v125) (lv2 := [(0, .ref x0), (2, .int x2), (5, .ref x5), (6, .int x6), (7, .int v125)]) hX dX6_stands_125 4 rfl (by rw [e125, ci_1]) (Nat.le_of_ble_eq_true rfl) [1, 2, 3, 4, 0] rfl 128 rfl ?_
    refine jj_goto hX dX6_stands_128 73 (by decide) ?_
    exact hG73 _ _ h
  · have h := h.2 c120
    refine jj_iconst hX dX6_stands_123 ci_0 124 rfl ?_
    exact jj_retz (post := (fun (r : Int32) (w : XS) => Post r w)) (u := u) hX dX6_stands_124 (Nat.le_refl 0) (Nat.le_refl 0) jx_hB jj_z0 h
set_option maxHeartbeats 4000000 in
set_option maxRecDepth 100000 in
theorem txw6_stands_L73 {X : JC} {D : va_G} {dA aK aV : Nat → Nat} {sz : Nat} {K : XK} {Post : Int32 → XS → Prop} {x0 : Nat} {x2 : Int32} {x5 : Nat} {x6 : Int32} (hX : JX X yX6_stands.cls cX6_stands 8 (Option.some Jvm.ClassFile.FieldType.boolean) 2 40 0 0) (hY : JY X D dA aK aV (AX K sz)) : ∀ (n : Nat) (x7 : Int32) (u : XS), xw6_stands_L73 Post K x0 x2 x5 x6 n x7 u → JJ X (AX K sz) (jj_Q X (va_Qi (fun (r : Int32) (w : XS) => Post r w ∧ jj_z r) (jx_B D dA K) (AX K sz)) 0 0 (AX K sz)) 8 (XP D dA (AX K sz) K u) 0 0 73 [(0, .ref x0), (2, .int x2), (5, .ref x5), (6, .int x6), (7, .int x7)] [] := by
  intro n
  induction n with
  | zero =>
    intro x7 u h
    exact h.elim
  | succ n ih =>
    intro x7 u h
    have h : xw6_stands_L73_S Post K x0 x2 x5 x6 (xw6_stands_L73 Post K x0 x2 x5 x6 n) x7 u := h
    unfold xw6_stands_L73_S at h
    refine jj_iload hX dX6_stands_73 4 rfl 75 rfl ?_
    refine jj_iload hX dX6_stands_75 3 rfl 77 rfl ?_
    refine jj_icmp_ge hX dX6_stands_77 131 80 (by decide) rfl (fun c77 => ?_) (fun c77 => ?_)
    · have h := h.1 c77
      refine jj_iconst hX dX6_stands_131 ci_1 132 rfl ?_
      exact jj_retz (post := (fun (r : Int32) (w : XS) => Post r w)) (u := u) hX dX6_stands_132 (Nat.le_refl 0) (Nat.le_refl 0) jx_hB jj_z1 h
    · have h := h.2 c77
      refine jj_iload hX dX6_stands_80 4 rfl 82 rfl ?_
      refine jj_if_le hX dX6_stands_82 100 85 (by decide) rfl (fun c82 => ?_) (fun c82 => ?_)
      · have h := h.1 c82
        exact txw6_stands_B100 hX hY ih h
      · have h := h.2 c82
        refine jj_aload_n hX dX6_stands_85 0 rfl 86 rfl ?_
        obtain ⟨k86, h⟩ := h
        refine xg6_2 hX hY k86 dX6_stands_86 q338 89 rfl ?_
        refine jj_iload_n hX dX6_stands_89 1 rfl 90 rfl ?_
        refine jj_iload hX dX6_stands_90 4 rfl 92 rfl ?_
        refine jj_iadd hX dX6_stands_92 93 rfl ?_
        obtain ⟨b93, g93, h⟩ := h
        refine jj_st (st2 := [.int (x2 + x7), .ref b93]) (by rw [va_rf_some g93]) ?_
        obtain ⟨n93, k93, h⟩ := h
        obtain ⟨hi93, h⟩ := h
        refine jx_bald hX hY.1 k93 _ rfl hi93 dX6_stands_93 94 rfl ?_
        refine knxs_isGreat hX XP.keeps hY.2.1 nq941 (Nat.le_of_ble_eq_true rfl) (Nat.le_of_ble_eq_true rfl) (Nat.zero_le _) (Nat.zero_le _) (Nat.le_of_ble_eq_true rfl) dX6_stands_94 97 rfl h (fun r94 hb94 h => ?_)
        refine jj_if_ne hX dX6_stands_97 123 100 (by decide) rfl (fun c97 => ?_) (fun c97 => ?_)
        · have h := h.1 c97
          refine jj_iconst hX dX6_stands_123 ci_0 124 rfl ?_
          exact jj_retz (post := (fun (r : Int32) (w : XS) => Post r w)) (u := u) hX dX6_stands_124 (Nat.le_refl 0) (Nat.le_refl 0) jx_hB jj_z0 h
        · have h := h.2 c97
          exact txw6_stands_B100 hX hY ih h
set_option maxHeartbeats 4000000 in
set_option maxRecDepth 100000 in
theorem txw6_stands_B48 {X : JC} {D : va_G} {dA aK aV : Nat → Nat} {sz : Nat} {K : XK} {Post : Int32 → XS → Prop} {x0 : Nat} {x2 : Int32} {x4 : Int32} {x5 : Nat} {x6 : Int32} {s0 : Int32} {s1 : Nat} {u : XS} (hX : JX X yX6_stands.cls cX6_stands 8 (Option.some Jvm.ClassFile.FieldType.boolean) 2 40 0 0) (hY : JY X D dA aK aV (AX K sz)) (h : xw6_stands_B48 Post K x0 x2 x4 x5 x6 s0 s1 u) : JJ X (AX K sz) (jj_Q X (va_Qi (fun (r : Int32) (w : XS) => Post r w ∧ jj_z r) (jx_B D dA K) (AX K sz)) 0 0 (AX K sz)) 8 (XP D dA (AX K sz) K u) 0 0 48 [(0, .ref x0), (2, .int x2), (4, .int x4), (5, .ref x5), (6, .int x6)] [.int s0, .ref s1] := by
  unfold xw6_stands_B48 at h
  refine jj_iload_n hX dX6_stands_48 1 rfl 49 rfl ?_
  refine jj_iload hX dX6_stands_49 4 rfl 51 rfl ?_
  refine jj_iadd hX dX6_stands_51 52 rfl ?_
  refine jj_iload hX dX6_stands_52 2 rfl 54 rfl ?_
  refine jj_icmp_ne hX dX6_stands_54 61 57 (by decide) rfl (fun c54 => ?_) (fun c54 => ?_)
  · have h := h.1 c54
    refine jj_iconst hX dX6_stands_61 ci_0 62 rfl ?_
    obtain ⟨k62, h⟩ := h
    refine kxabs_may hX hY k62 q923 (Nat.le_of_ble_eq_true rfl) (Nat.le_of_ble_eq_true rfl) (Nat.zero_le _) (Nat.zero_le _) (Nat.le_of_ble_eq_true rfl) dX6_stands_62 65 rfl h (fun r62 u62 hb62 h => ?_)
    refine jj_if_ne hX dX6_stands_65 70 68 (by decide) rfl (fun c65 => ?_) (fun c65 => ?_)
    · have h := h.1 c65
      refine jj_iconst hX dX6_stands_70 ci_0 71 rfl ?_
      refine jj_istore (lv2 := [(0, .ref x0), (2, .int x2), (5, .ref x5), (6, .int x6), (7, .int (0 : Int32))]) hX dX6_stands_71 (Nat.le_of_ble_eq_true rfl) [1, 2, 4, 5, 0] rfl 73 rfl ?_
      obtain ⟨n9, h⟩ := h
      exact txw6_stands_L73 hX hY n9 _ _ h
    · have h := h.2 c65
      refine jj_iconst hX dX6_stands_68 ci_0 69 rfl ?_
      exact jj_retz (post := (fun (r : Int32) (w : XS) => Post r w)) (u := u62) hX dX6_stands_69 (Nat.le_refl 0) (Nat.le_refl 0) jx_hB jj_z0 h
  · have h := h.2 c54
    refine jj_iconst hX dX6_stands_57 ci_1 58 rfl ?_
    refine jj_goto hX dX6_stands_58 62 (by decide) ?_
    obtain ⟨k62, h⟩ := h
    refine kxabs_may hX hY k62 q923 (Nat.le_of_ble_eq_true rfl) (Nat.le_of_ble_eq_true rfl) (Nat.zero_le _) (Nat.zero_le _) (Nat.le_of_ble_eq_true rfl) dX6_stands_62 65 rfl h (fun r62 u62 hb62 h => ?_)
    refine jj_if_ne hX dX6_stands_65 70 68 (by decide) rfl (fun c65 => ?_) (fun c65 => ?_)
    · have h := h.1 c65
      refine jj_iconst hX dX6_stands_70 ci_0 71 rfl ?_
      refine jj_istore (lv2 := [(0, .ref x0), (2, .int x2), (5, .ref x5), (6, .int x6), (7, .int (0 : Int32))]) hX dX6_stands_71 (Nat.le_of_ble_eq_true rfl) [1, 2, 4, 5, 0] rfl 73 rfl ?_
      obtain ⟨n9, h⟩ := h
      exact txw6_stands_L73 hX hY n9 _ _ h
    · have h := h.2 c65
      refine jj_iconst hX dX6_stands_68 ci_0 69 rfl ?_
      exact jj_retz (post := (fun (r : Int32) (w : XS) => Post r w)) (u := u62) hX dX6_stands_69 (Nat.le_refl 0) (Nat.le_refl 0) jx_hB jj_z0 h
set_option maxHeartbeats 4000000 in
set_option maxRecDepth 100000 in
theorem mxw6_stands (l : Launch) (hfl : l.stackTraces = false) (D : va_G) (dA aK aV : Nat → Nat) (x0 : Nat) (x1 : Int32) (x2 : Int32) (x3 : Int32) (x4 : Int32) (K : XK) (u : XS) (Post : Int32 → XS → Prop) (h : xw6_stands x0 x1 x2 x3 x4 K u Post) (sz : Nat) : Met l yX6_stands (ws_ yX6_stands cX6_stands 8 (Option.some Jvm.ClassFile.FieldType.boolean)) (jx_rm 2 40 0 0) (jx_Pc D dA aK aV K u sz [.ref x0, .int x1, .int x2, .int x3, .int x4]) (va_Qi (fun (r : Int32) (w : XS) => Post r w ∧ jj_z r) (jx_B D dA K) (AX K sz)) 0 0 (AX K sz) := by
  refine jx_start hfl [.ref x0, .int x1, .int x2, .int x3, .int x4] [(0, .ref x0), (1, .int x1), (2, .int x2), (3, .int x3), (4, .int x4)] (by decide) (Nat.le_of_ble_eq_true rfl) rfl (fun X hX hY hin => ?_)
  unfold xw6_stands at h
  refine jj_aload_n hX dX6_stands_0 0 rfl 1 rfl ?_
  obtain ⟨k1, h⟩ := h
  refine xg6_0 hX hY k1 dX6_stands_1 q334 4 rfl ?_
  obtain ⟨b4, g4, h⟩ := h
  refine jj_st (st2 := [.ref b4]) (by rw [va_rf_some g4]) ?_
  obtain ⟨k4, h⟩ := h
  refine xgn5_0 hX hY k4 dX6_stands_4 nq274 7 rfl ?_
  refine jj_iload_n hX dX6_stands_7 1 rfl 8 rfl ?_
  obtain ⟨b8, g8, h⟩ := h
  refine jj_st (st2 := [.int x1, .ref b8]) (by rw [va_rf_some g8]) ?_
  obtain ⟨n8, k8, h⟩ := h
  obtain ⟨hi8, h⟩ := h
  refine jx_aald5 hX hY.1 k8 _ rfl hi8 dX6_stands_8 9 rfl ?_
  obtain ⟨b9, g9, h⟩ := h
  refine jj_st (st2 := [.ref b9]) (by rw [va_rf_some g9]) ?_
  refine jj_astore (lv2 := [(0, .ref x0), (1, .int x1), (2, .int x2), (3, .int x3), (4, .int x4), (5, .ref b9)]) hX dX6_stands_9 (Nat.le_of_ble_eq_true rfl) [1, 2, 3, 4, 5, 0] rfl 11 rfl ?_
  refine jj_aload hX dX6_stands_11 5 rfl 13 rfl ?_
  obtain ⟨k13, h⟩ := h
  refine xgr_0 hX hY k13 dX6_stands_13 q773 16 rfl ?_
  obtain ⟨b16, g16, h⟩ := h
  refine jj_st (st2 := [.ref b16]) (by rw [va_rf_some g16]) ?_
  obtain ⟨n16, k16, h⟩ := h
  refine jx_alen hX hY.1 k16 dX6_stands_16 17 rfl ?_
  refine jj_topi (fun v17 e17 => ?_)
  have h := h v17 e17
  refine jj_istore (lv2 := [(0, .ref x0), (1, .int x1), (2, .int x2), (3, .int x3), (4, .int x4), (5, .ref b9), (6, .int v17)]) hX dX6_stands_17 (Nat.le_of_ble_eq_true rfl) [1, 2, 3, 4, 5, 6, 0] rfl 19 rfl ?_
  refine jj_aload_n hX dX6_stands_19 0 rfl 20 rfl ?_
  refine jj_iload_n hX dX6_stands_20 1 rfl 21 rfl ?_
  refine kxw6_isThere hX hY k1 q919 (Nat.le_of_ble_eq_true rfl) (Nat.le_of_ble_eq_true rfl) (Nat.zero_le _) (Nat.zero_le _) (Nat.le_of_ble_eq_true rfl) dX6_stands_21 24 rfl h (fun r21 u21 hb21 h => ?_)
  refine jj_if_eq hX dX6_stands_24 68 27 (by decide) rfl (fun c24 => ?_) (fun c24 => ?_)
  · have h := h.1 c24
    refine jj_iconst hX dX6_stands_68 ci_0 69 rfl ?_
    exact jj_retz (post := (fun (r : Int32) (w : XS) => Post r w)) (u := u21) hX dX6_stands_69 (Nat.le_refl 0) (Nat.le_refl 0) jx_hB jj_z0 h
  · have h := h.2 c24
    refine jj_iload_n hX dX6_stands_27 2 rfl 28 rfl ?_
    refine jj_iload hX dX6_stands_28 6 rfl 30 rfl ?_
    refine jj_iadd hX dX6_stands_30 31 rfl ?_
    refine jj_iload hX dX6_stands_31 4 rfl 33 rfl ?_
    refine jj_icmp_gt hX dX6_stands_33 68 36 (by decide) rfl (fun c33 => ?_) (fun c33 => ?_)
    · have h := h.1 c33
      refine jj_iconst hX dX6_stands_68 ci_0 69 rfl ?_
      exact jj_retz (post := (fun (r : Int32) (w : XS) => Post r w)) (u := u21) hX dX6_stands_69 (Nat.le_refl 0) (Nat.le_refl 0) jx_hB jj_z0 h
    · have h := h.2 c33
      refine jj_aload hX dX6_stands_36 5 rfl 38 rfl ?_
      refine jj_iload_n hX dX6_stands_38 2 rfl 39 rfl ?_
      refine jj_iload_n hX dX6_stands_39 3 rfl 40 rfl ?_
      refine jj_icmp_ne hX dX6_stands_40 47 43 (by decide) rfl (fun c40 => ?_) (fun c40 => ?_)
      · have h := h.1 c40
        refine jj_iconst hX dX6_stands_47 ci_0 48 rfl ?_
        refine jj_sub (lv2 := [(0, .ref x0), (2, .int x2), (4, .int x4), (5, .ref b9), (6, .int v17)]) [0, 2, 4, 5, 6] rfl ?_
        exact txw6_stands_B48 hX hY h
      · have h := h.2 c40
        refine jj_iconst hX dX6_stands_43 ci_1 44 rfl ?_
        refine jj_goto hX dX6_stands_44 48 (by decide) ?_
        refine jj_sub (lv2 := [(0, .ref x0), (2, .int x2), (4, .int x4), (5, .ref b9), (6, .int v17)]) [0, 2, 4, 5, 6] rfl ?_
        exact txw6_stands_B48 hX hY h
theorem hd_xw6_stands : yX6_stands.cls ≠ "java/lang/invoke/MethodHandle" ∧ yX6_stands.cls ≠ "java/lang/invoke/VarHandle" ∧ (parseMethodDescriptor yX6_stands.desc).map (fun d => d.parameters.length) = some 4 := by decide +kernel
theorem kxw6_stands {X : JC} {A : Nat → Prop} {Q : State → Prop} {nL k n pc : Nat} {lv : List (Nat × Value)} {st : List Value} {own : String} {cc : ByteArray} {ret : Option FieldType} {F LL mc ms ix : Nat} {D : va_G} {dA aK aV : Nat → Nat} {K : XK} {u : XS} {x0 : Nat} {x1 : Int32} {x2 : Int32} {x3 : Int32} {x4 : Int32} {Post : Int32 → XS → Prop} (hX : JX X own cc nL ret F LL mc ms) (hY : JY X D dA aK aV A) (h1a : K x0 = (1, 6)) (hlk : (Cond.methodLink own ix yX6_stands) ∈ lw_all) (hF : 2 + 1 ≤ F) (hL : 8 + (8 + 11) + 40 ≤ LL) (hk : k ≤ mc) (hk2 : n ≤ ms) (hw : (st.map fun v => v.category).sum ≤ 8) (d : decode cc pc = .ok (.invokevirtual ix, 3)) (q : Nat) (hq : pc + 3 = q) (h : xw6_stands x0 x1 x2 x3 x4 K u  Post) (kk : ∀ (r : Int32) (u2 : XS), jj_z r → Post r u2 → JJ X A Q nL (XP D dA A K u2) k n q lv (.int r :: st)) : JJ X A Q nL (XP D dA A K u) k n pc lv (.int x4 :: .int x3 :: .int x2 :: .int x1 :: .ref x0 :: st) :=
  jx_callVz (na := 4) (As := [.int x1, .int x2, .int x3, .int x4]) hX hY jf6 h1a (fun sz => mxw6_stands (jj_l X) hY.2.2.2.2 D dA aK aV x0 x1 x2 x3 x4 K u  Post h sz) hlk q916 q917 q128 q918 ⟨rfl, hd_xw6_stands⟩ rfl rfl hw hF hL hk hk2 d q hq kk
theorem knxw6_stands {X : JC} {A : Nat → Prop} {Q : State → Prop} {nL k n pc : Nat} {lv : List (Nat × Value)} {st : List Value} {own : String} {cc : ByteArray} {ret : Option FieldType} {F LL mc ms ix : Nat} {D : va_G} {dA aK aV : Nat → Nat} {K : XK} {u : XS} {x0 : Nat} {x1 : Int32} {x2 : Int32} {x3 : Int32} {x4 : Int32} {host : String} {Post : Int32 → XS → Prop} (hX : JX X own cc nL ret F LL mc ms) (hY : JY X D dA aK aV A) (h1a : K x0 = (1, 6)) (hlk : (Cond.methodLinkNest own ix yX6_stands host) ∈ jx_nest) (hF : 2 + 1 ≤ F) (hL : 8 + (8 + 11) + 40 ≤ LL) (hk : k ≤ mc) (hk2 : n ≤ ms) (hw : (st.map fun v => v.category).sum ≤ 8) (d : decode cc pc = .ok (.invokevirtual ix, 3)) (q : Nat) (hq : pc + 3 = q) (h : xw6_stands x0 x1 x2 x3 x4 K u  Post) (kk : ∀ (r : Int32) (u2 : XS), jj_z r → Post r u2 → JJ X A Q nL (XP D dA A K u2) k n q lv (.int r :: st)) : JJ X A Q nL (XP D dA A K u) k n pc lv (.int x4 :: .int x3 :: .int x2 :: .int x1 :: .ref x0 :: st) :=
  jx_callNz (na := 4) (As := [.int x1, .int x2, .int x3, .int x4]) hX hY jf6 h1a (fun sz => mxw6_stands (jj_l X) hY.2.2.2.2 D dA aK aV x0 x1 x2 x3 x4 K u  Post h sz) hlk q916 q917 q128 q918 hd_xw6_stands rfl rfl hw hF hL hk hk2 d q hq kk
def xw6_taken_L6_S (Post : Int32 → XS → Prop) (K : XK) (x0 : Nat) (x1 : Int32) (x2 : Int32) (x3 : Int32) (R : Int32 → Int32 → XS → Prop) (x4 : Int32) (x5 : Int32) (u : XS) : Prop :=
  K x0 = (1, 6) ∧
  ∃ b12, (xr u x0 0) = some b12 ∧
  K b12 = (1, 5) ∧
  ((xi u b12 1) ≤ x5 →
    Post x4 u) ∧
  (¬ (xi u b12 1) ≤ x5 →
    xw6_stands x0 x5 x1 x2 x3 K u (fun r24 u24 =>
      (r24 = 0 →
        ∀ v70 : Int32, v70 = x5 + (1 : Int32) →
        R x4 v70 u24) ∧
      (¬ r24 = 0 →
        (x4 < 0 →
          ∀ v70 : Int32, v70 = x5 + (1 : Int32) →
          R x5 v70 u24) ∧
        (¬ x4 < 0 →
          ∃ b39, (xr u24 x0 0) = some b39 ∧
          K b39 = (1, 5) ∧
          ∃ b44, (xr u24 b39 0) = some b44 ∧
          ∃ n44, K b44 = (7, n44) ∧
          vp_in x5 n44 ∧
          ∃ b45, (xr u24 b44 x5.toNatClampNeg) = some b45 ∧
          xRule K b45 ∧
          ∃ b48, (xr u24 b45 0) = some b48 ∧
          ∃ n48, K b48 = (3, n48) ∧
          ∃ b53, (xr u24 x0 0) = some b53 ∧
          K b53 = (1, 5) ∧
          ∃ b58, (xr u24 b53 0) = some b58 ∧
          ∃ n58, K b58 = (7, n58) ∧
          vp_in x4 n58 ∧
          ∃ b59, (xr u24 b58 x4.toNatClampNeg) = some b59 ∧
          xRule K b59 ∧
          ∃ b62, (xr u24 b59 0) = some b62 ∧
          ∃ n62, K b62 = (3, n62) ∧
          ((nI n48) ≤ (nI n62) →
            ∀ v70 : Int32, v70 = x5 + (1 : Int32) →
            R x4 v70 u24) ∧
          (¬ (nI n48) ≤ (nI n62) →
            ∀ v70 : Int32, v70 = x5 + (1 : Int32) →
            R x5 v70 u24)))))
def xw6_taken_L6 (Post : Int32 → XS → Prop) (K : XK) (x0 : Nat) (x1 : Int32) (x2 : Int32) (x3 : Int32) : Nat → Int32 → Int32 → XS → Prop
  | 0 => fun _ _ _ => False
  | n + 1 => fun x4 x5 u => xw6_taken_L6_S Post K x0 x1 x2 x3 (xw6_taken_L6 Post K x0 x1 x2 x3 n) x4 x5 u
/-- RaisedPress$Setter.taken(III)I -/
def xw6_taken (x0 : Nat) (x1 : Int32) (x2 : Int32) (x3 : Int32) (K : XK) (u : XS) (Post : Int32 → XS → Prop) : Prop :=
  ∃ n, xw6_taken_L6 Post K x0 x1 x2 x3 n (-1 : Int32) (0 : Int32) u
set_option maxHeartbeats 4000000 in
set_option maxRecDepth 100000 in
theorem txw6_taken_L6 {X : JC} {D : va_G} {dA aK aV : Nat → Nat} {sz : Nat} {K : XK} {Post : Int32 → XS → Prop} {x0 : Nat} {x1 : Int32} {x2 : Int32} {x3 : Int32} (hX : JX X yX6_taken.cls cX6_taken 6 (Option.some Jvm.ClassFile.FieldType.int) 3 67 0 0) (hY : JY X D dA aK aV (AX K sz)) : ∀ (n : Nat) (x4 : Int32) (x5 : Int32) (u : XS), xw6_taken_L6 Post K x0 x1 x2 x3 n x4 x5 u → JJ X (AX K sz) (jj_Q X (va_Qi (fun (r : Int32) (w : XS) => Post r w) (jx_B D dA K) (AX K sz)) 0 0 (AX K sz)) 6 (XP D dA (AX K sz) K u) 0 0 6 [(0, .ref x0), (1, .int x1), (2, .int x2), (3, .int x3), (4, .int x4), (5, .int x5)] [] := by
  intro n
  induction n with
  | zero =>
    intro x4 x5 u h
    exact h.elim
  | succ n ih =>
    intro x4 x5 u h
    have h : xw6_taken_L6_S Post K x0 x1 x2 x3 (xw6_taken_L6 Post K x0 x1 x2 x3 n) x4 x5 u := h
    unfold xw6_taken_L6_S at h
    refine jj_iload hX dX6_taken_6 5 rfl 8 rfl ?_
    refine jj_aload_n hX dX6_taken_8 0 rfl 9 rfl ?_
    obtain ⟨k9, h⟩ := h
    refine xg6_0 hX hY k9 dX6_taken_9 q334 12 rfl ?_
    obtain ⟨b12, g12, h⟩ := h
    refine jj_st (st2 := [.ref b12, .int x5]) (by rw [va_rf_some g12]) ?_
    obtain ⟨k12, h⟩ := h
    refine xgn5_1 hX hY k12 dX6_taken_12 nq277 15 rfl ?_
    refine jj_icmp_ge hX dX6_taken_15 76 18 (by decide) rfl (fun c15 => ?_) (fun c15 => ?_)
    · have h := h.1 c15
      refine jj_iload hX dX6_taken_76 4 rfl 78 rfl ?_
      exact jj_reti (post := (fun (r : Int32) (w : XS) => Post r w)) (u := u) hX dX6_taken_78 (Nat.le_refl 0) (Nat.le_refl 0) jx_hB h
    · have h := h.2 c15
      refine jj_aload_n hX dX6_taken_18 0 rfl 19 rfl ?_
      refine jj_iload hX dX6_taken_19 5 rfl 21 rfl ?_
      refine jj_iload_n hX dX6_taken_21 1 rfl 22 rfl ?_
      refine jj_iload_n hX dX6_taken_22 2 rfl 23 rfl ?_
      refine jj_iload_n hX dX6_taken_23 3 rfl 24 rfl ?_
      refine kxw6_stands hX hY k9 q915 (Nat.le_of_ble_eq_true rfl) (Nat.le_of_ble_eq_true rfl) (Nat.zero_le _) (Nat.zero_le _) (Nat.le_of_ble_eq_true rfl) dX6_taken_24 27 rfl h (fun r24 u24 hb24 h => ?_)
      refine jj_if_eq hX dX6_taken_27 70 30 (by decide) rfl (fun c27 => ?_) (fun c27 => ?_)
      · have h := h.1 c27
        obtain ⟨v70, e70⟩ : ∃ y : Int32, y = x5 + (1 : Int32) := ⟨_, rfl⟩
        have h := h v70 e70
        refine jj_iinc (v := v70) (lv2 := [(0, .ref x0), (1, .int x1), (2, .int x2), (3, .int x3), (4, .int x4), (5, .int v70)]) hX dX6_taken_70 5 rfl (by rw [e70, ci_1]) (Nat.le_of_ble_eq_true rfl) [1, 2, 3, 4, 5, 0] rfl 73 rfl ?_
        refine jj_goto hX dX6_taken_73 6 (by decide) ?_
        exact ih _ _ _ h
      · have h := h.2 c27
        refine jj_iload hX dX6_taken_30 4 rfl 32 rfl ?_
        refine jj_if_lt hX dX6_taken_32 66 35 (by decide) rfl (fun c32 => ?_) (fun c32 => ?_)
        · have h := h.1 c32
          refine jj_iload hX dX6_taken_66 5 rfl 68 rfl ?_
          refine jj_istore (lv2 := [(0, .ref x0), (1, .int x1), (2, .int x2), (3, .int x3), (4, .int x5), (5, .int x5)]) hX dX6_taken_68 (Nat.le_of_ble_eq_true rfl) [1, 2, 3, 4, 0, 5] rfl 70 rfl ?_
          obtain ⟨v70, e70⟩ : ∃ y : Int32, y = x5 + (1 : Int32) := ⟨_, rfl⟩
          have h := h v70 e70
          refine jj_iinc (v := v70) (lv2 := [(0, .ref x0), (1, .int x1), (2, .int x2), (3, .int x3), (4, .int x5), (5, .int v70)]) hX dX6_taken_70 5 rfl (by rw [e70, ci_1]) (Nat.le_of_ble_eq_true rfl) [1, 2, 3, 4, 5, 0] rfl 73 rfl ?_
          refine jj_goto hX dX6_taken_73 6 (by decide) ?_
          exact ih _ _ _ h
        · have h := h.2 c32
          refine jj_aload_n hX dX6_taken_35 0 rfl 36 rfl ?_
          refine xg6_0 hX hY k9 dX6_taken_36 q334 39 rfl ?_
          obtain ⟨b39, g39, h⟩ := h
          refine jj_st (st2 := [.ref b39]) (by rw [va_rf_some g39]) ?_
          obtain ⟨k39, h⟩ := h
          refine xgn5_0 hX hY k39 dX6_taken_39 nq274 42 rfl ?_
          refine jj_iload hX dX6_taken_42 5 rfl 44 rfl ?_
          obtain ⟨b44, g44, h⟩ := h
          refine jj_st (st2 := [.int x5, .ref b44]) (by rw [va_rf_some g44]) ?_
          obtain ⟨n44, k44, h⟩ := h
          obtain ⟨hi44, h⟩ := h
          refine jx_aald5 hX hY.1 k44 _ rfl hi44 dX6_taken_44 45 rfl ?_
          obtain ⟨b45, g45, h⟩ := h
          refine jj_st (st2 := [.ref b45]) (by rw [va_rf_some g45]) ?_
          obtain ⟨k45, h⟩ := h
          refine xgr_0 hX hY k45 dX6_taken_45 q773 48 rfl ?_
          obtain ⟨b48, g48, h⟩ := h
          refine jj_st (st2 := [.ref b48]) (by rw [va_rf_some g48]) ?_
          obtain ⟨n48, k48, h⟩ := h
          refine jx_alen hX hY.1 k48 dX6_taken_48 49 rfl ?_
          refine jj_aload_n hX dX6_taken_49 0 rfl 50 rfl ?_
          refine xg6_0 hX hY k9 dX6_taken_50 q334 53 rfl ?_
          obtain ⟨b53, g53, h⟩ := h
          refine jj_st (st2 := [.ref b53, .int (nI n48)]) (by rw [va_rf_some g53]) ?_
          obtain ⟨k53, h⟩ := h
          refine xgn5_0 hX hY k53 dX6_taken_53 nq274 56 rfl ?_
          refine jj_iload hX dX6_taken_56 4 rfl 58 rfl ?_
          obtain ⟨b58, g58, h⟩ := h
          refine jj_st (st2 := [.int x4, .ref b58, .int (nI n48)]) (by rw [va_rf_some g58]) ?_
          obtain ⟨n58, k58, h⟩ := h
          obtain ⟨hi58, h⟩ := h
          refine jx_aald5 hX hY.1 k58 _ rfl hi58 dX6_taken_58 59 rfl ?_
          obtain ⟨b59, g59, h⟩ := h
          refine jj_st (st2 := [.ref b59, .int (nI n48)]) (by rw [va_rf_some g59]) ?_
          obtain ⟨k59, h⟩ := h
          refine xgr_0 hX hY k59 dX6_taken_59 q773 62 rfl ?_
          obtain ⟨b62, g62, h⟩ := h
          refine jj_st (st2 := [.ref b62, .int (nI n48)]) (by rw [va_rf_some g62]) ?_
          obtain ⟨n62, k62, h⟩ := h
          refine jx_alen hX hY.1 k62 dX6_taken_62 63 rfl ?_
          refine jj_icmp_le hX dX6_taken_63 70 66 (by decide) rfl (fun c63 => ?_) (fun c63 => ?_)
          · have h := h.1 c63
            obtain ⟨v70, e70⟩ : ∃ y : Int32, y = x5 + (1 : Int32) := ⟨_, rfl⟩
            have h := h v70 e70
            refine jj_iinc (v := v70) (lv2 := [(0, .ref x0), (1, .int x1), (2, .int x2), (3, .int x3), (4, .int x4), (5, .int v70)]) hX dX6_taken_70 5 rfl (by rw [e70, ci_1]) (Nat.le_of_ble_eq_true rfl) [1, 2, 3, 4, 5, 0] rfl 73 rfl ?_
            refine jj_goto hX dX6_taken_73 6 (by decide) ?_
            exact ih _ _ _ h
          · have h := h.2 c63
            refine jj_iload hX dX6_taken_66 5 rfl 68 rfl ?_
            refine jj_istore (lv2 := [(0, .ref x0), (1, .int x1), (2, .int x2), (3, .int x3), (4, .int x5), (5, .int x5)]) hX dX6_taken_68 (Nat.le_of_ble_eq_true rfl) [1, 2, 3, 4, 0, 5] rfl 70 rfl ?_
            obtain ⟨v70, e70⟩ : ∃ y : Int32, y = x5 + (1 : Int32) := ⟨_, rfl⟩
            have h := h v70 e70
            refine jj_iinc (v := v70) (lv2 := [(0, .ref x0), (1, .int x1), (2, .int x2), (3, .int x3), (4, .int x5), (5, .int v70)]) hX dX6_taken_70 5 rfl (by rw [e70, ci_1]) (Nat.le_of_ble_eq_true rfl) [1, 2, 3, 4, 5, 0] rfl 73 rfl ?_
            refine jj_goto hX dX6_taken_73 6 (by decide) ?_
            exact ih _ _ _ h
set_option maxHeartbeats 4000000 in
set_option maxRecDepth 100000 in
theorem mxw6_taken (l : Launch) (hfl : l.stackTraces = false) (D : va_G) (dA aK aV : Nat → Nat) (x0 : Nat) (x1 : Int32) (x2 : Int32) (x3 : Int32) (K : XK) (u : XS) (Post : Int32 → XS → Prop) (h : xw6_taken x0 x1 x2 x3 K u Post) (sz : Nat) : Met l yX6_taken (ws_ yX6_taken cX6_taken 6 (Option.some Jvm.ClassFile.FieldType.int)) (jx_rm 3 67 0 0) (jx_Pc D dA aK aV K u sz [.ref x0, .int x1, .int x2, .int x3]) (va_Qi (fun (r : Int32) (w : XS) => Post r w) (jx_B D dA K) (AX K sz)) 0 0 (AX K sz) := by
  refine jx_start hfl [.ref x0, .int x1, .int x2, .int x3] [(0, .ref x0), (1, .int x1), (2, .int x2), (3, .int x3)] (by decide) (Nat.le_of_ble_eq_true rfl) rfl (fun X hX hY hin => ?_)
  unfold xw6_taken at h
  refine jj_iconst hX dX6_taken_0 ci_m1 1 rfl ?_
  refine jj_istore (lv2 := [(0, .ref x0), (1, .int x1), (2, .int x2), (3, .int x3), (4, .int (-1 : Int32))]) hX dX6_taken_1 (Nat.le_of_ble_eq_true rfl) [1, 2, 3, 4, 0] rfl 3 rfl ?_
  refine jj_iconst hX dX6_taken_3 ci_0 4 rfl ?_
  refine jj_istore (lv2 := [(0, .ref x0), (1, .int x1), (2, .int x2), (3, .int x3), (4, .int (-1 : Int32)), (5, .int (0 : Int32))]) hX dX6_taken_4 (Nat.le_of_ble_eq_true rfl) [1, 2, 3, 4, 5, 0] rfl 6 rfl ?_
  obtain ⟨n9, h⟩ := h
  exact txw6_taken_L6 hX hY n9 _ _ _ h
theorem hd_xw6_taken : yX6_taken.cls ≠ "java/lang/invoke/MethodHandle" ∧ yX6_taken.cls ≠ "java/lang/invoke/VarHandle" ∧ (parseMethodDescriptor yX6_taken.desc).map (fun d => d.parameters.length) = some 3 := by decide +kernel
theorem kxw6_taken {X : JC} {A : Nat → Prop} {Q : State → Prop} {nL k n pc : Nat} {lv : List (Nat × Value)} {st : List Value} {own : String} {cc : ByteArray} {ret : Option FieldType} {F LL mc ms ix : Nat} {D : va_G} {dA aK aV : Nat → Nat} {K : XK} {u : XS} {x0 : Nat} {x1 : Int32} {x2 : Int32} {x3 : Int32} {Post : Int32 → XS → Prop} (hX : JX X own cc nL ret F LL mc ms) (hY : JY X D dA aK aV A) (h1a : K x0 = (1, 6)) (hlk : (Cond.methodLink own ix yX6_taken) ∈ lw_all) (hF : 3 + 1 ≤ F) (hL : 8 + (6 + 11) + 67 ≤ LL) (hk : k ≤ mc) (hk2 : n ≤ ms) (hw : (st.map fun v => v.category).sum ≤ 8) (d : decode cc pc = .ok (.invokevirtual ix, 3)) (q : Nat) (hq : pc + 3 = q) (h : xw6_taken x0 x1 x2 x3 K u  Post) (kk : ∀ (r : Int32) (u2 : XS), Post r u2 → JJ X A Q nL (XP D dA A K u2) k n q lv (.int r :: st)) : JJ X A Q nL (XP D dA A K u) k n pc lv (.int x3 :: .int x2 :: .int x1 :: .ref x0 :: st) :=
  jx_callVi (na := 3) (As := [.int x1, .int x2, .int x3]) hX hY jf6 h1a (fun sz => mxw6_taken (jj_l X) hY.2.2.2.2 D dA aK aV x0 x1 x2 x3 K u  Post h sz) hlk q912 q913 q128 q914 ⟨rfl, hd_xw6_taken⟩ rfl rfl hw hF hL hk hk2 d q hq kk
theorem knxw6_taken {X : JC} {A : Nat → Prop} {Q : State → Prop} {nL k n pc : Nat} {lv : List (Nat × Value)} {st : List Value} {own : String} {cc : ByteArray} {ret : Option FieldType} {F LL mc ms ix : Nat} {D : va_G} {dA aK aV : Nat → Nat} {K : XK} {u : XS} {x0 : Nat} {x1 : Int32} {x2 : Int32} {x3 : Int32} {host : String} {Post : Int32 → XS → Prop} (hX : JX X own cc nL ret F LL mc ms) (hY : JY X D dA aK aV A) (h1a : K x0 = (1, 6)) (hlk : (Cond.methodLinkNest own ix yX6_taken host) ∈ jx_nest) (hF : 3 + 1 ≤ F) (hL : 8 + (6 + 11) + 67 ≤ LL) (hk : k ≤ mc) (hk2 : n ≤ ms) (hw : (st.map fun v => v.category).sum ≤ 8) (d : decode cc pc = .ok (.invokevirtual ix, 3)) (q : Nat) (hq : pc + 3 = q) (h : xw6_taken x0 x1 x2 x3 K u  Post) (kk : ∀ (r : Int32) (u2 : XS), Post r u2 → JJ X A Q nL (XP D dA A K u2) k n q lv (.int r :: st)) : JJ X A Q nL (XP D dA A K u) k n pc lv (.int x3 :: .int x2 :: .int x1 :: .ref x0 :: st) :=
  jx_callNi (na := 3) (As := [.int x1, .int x2, .int x3]) hX hY jf6 h1a (fun sz => mxw6_taken (jj_l X) hY.2.2.2.2 D dA aK aV x0 x1 x2 x3 K u  Post h sz) hlk q912 q913 q128 q914 hd_xw6_taken rfl rfl hw hF hL hk hk2 d q hq kk
/-- RaisedPress$Bad.at(II)LRaisedPress$Bad; -/
def xw2_at (x0 : Nat) (x1 : Int32) (x2 : Int32) (K : XK) (u : XS) (Post : Nat → XS → Prop) : Prop :=
  K x0 = (1, 2) ∧
  ∀ u2 : XS, u2 = xsi u x0 6 x1 →
  ∀ u7 : XS, u7 = xsi u2 x0 7 x2 →
  Post x0 u7
set_option maxHeartbeats 4000000 in
set_option maxRecDepth 100000 in
theorem mxw2_at (l : Launch) (hfl : l.stackTraces = false) (D : va_G) (dA aK aV : Nat → Nat) (x0 : Nat) (x1 : Int32) (x2 : Int32) (K : XK) (u : XS) (Post : Nat → XS → Prop) (h : xw2_at x0 x1 x2 K u Post) (sz : Nat) : Met l yX2_at (ws_ yX2_at cX2_at 3 (Option.some (Jvm.ClassFile.FieldType.object "RaisedPress$Bad"))) (jx_rm 0 0 0 0) (jx_Pc D dA aK aV K u sz [.ref x0, .int x1, .int x2]) (jx_Qr (fun (r : Nat) (w : XS) => Post r w) (jx_B D dA K) (AX K sz)) 0 0 (AX K sz) := by
  refine jx_start hfl [.ref x0, .int x1, .int x2] [(0, .ref x0), (1, .int x1), (2, .int x2)] (by decide) (Nat.le_of_ble_eq_true rfl) rfl (fun X hX hY hin => ?_)
  unfold xw2_at at h
  refine jj_aload_n hX dX2_at_0 0 rfl 1 rfl ?_
  refine jj_iload_n hX dX2_at_1 1 rfl 2 rfl ?_
  obtain ⟨k2, h⟩ := h
  refine xp2_6 hX hY k2 dX2_at_2 q218 5 rfl (fun u2 e2 => ?_)
  have h := h u2 e2
  refine jj_aload_n hX dX2_at_5 0 rfl 6 rfl ?_
  refine jj_iload_n hX dX2_at_6 2 rfl 7 rfl ?_
  refine xp2_7 hX hY k2 dX2_at_7 q220 10 rfl (fun u7 e7 => ?_)
  have h := h u7 e7
  refine jj_aload_n hX dX2_at_10 0 rfl 11 rfl ?_
  exact jj_retr (post := (fun (r : Nat) (w : XS) => Post r w)) (u := u7) hX (by first | exact Or.inl ⟨_, rfl⟩ | exact Or.inr ⟨_, rfl⟩) dX2_at_11 (Nat.le_refl 0) (Nat.le_refl 0) jx_hB h
theorem hd_xw2_at : yX2_at.cls ≠ "java/lang/invoke/MethodHandle" ∧ yX2_at.cls ≠ "java/lang/invoke/VarHandle" ∧ (parseMethodDescriptor yX2_at.desc).map (fun d => d.parameters.length) = some 2 := by decide +kernel
theorem kxw2_at {X : JC} {A : Nat → Prop} {Q : State → Prop} {nL k n pc : Nat} {lv : List (Nat × Value)} {st : List Value} {own : String} {cc : ByteArray} {ret : Option FieldType} {F LL mc ms ix : Nat} {D : va_G} {dA aK aV : Nat → Nat} {K : XK} {u : XS} {x0 : Nat} {x1 : Int32} {x2 : Int32} {Post : Nat → XS → Prop} (hX : JX X own cc nL ret F LL mc ms) (hY : JY X D dA aK aV A) (h1a : K x0 = (1, 2)) (hlk : (Cond.methodLink own ix yX2_at) ∈ lw_all) (hF : 0 + 1 ≤ F) (hL : 8 + (3 + 11) + 0 ≤ LL) (hk : k ≤ mc) (hk2 : n ≤ ms) (hw : (st.map fun v => v.category).sum ≤ 8) (d : decode cc pc = .ok (.invokevirtual ix, 3)) (q : Nat) (hq : pc + 3 = q) (h : xw2_at x0 x1 x2 K u  Post) (kk : ∀ (r : Nat) (u2 : XS), Post r u2 → JJ X A Q nL (XP D dA A K u2) k n q lv (.ref r :: st)) : JJ X A Q nL (XP D dA A K u) k n pc lv (.int x2 :: .int x1 :: .ref x0 :: st) :=
  jx_callVr (na := 2) (As := [.int x1, .int x2]) hX hY jf2 h1a (fun sz => mxw2_at (jj_l X) hY.2.2.2.2 D dA aK aV x0 x1 x2 K u  Post h sz) hlk q745 q746 q124 q747 ⟨rfl, hd_xw2_at⟩ rfl rfl hw hF hL hk hk2 d q hq kk
theorem knxw2_at {X : JC} {A : Nat → Prop} {Q : State → Prop} {nL k n pc : Nat} {lv : List (Nat × Value)} {st : List Value} {own : String} {cc : ByteArray} {ret : Option FieldType} {F LL mc ms ix : Nat} {D : va_G} {dA aK aV : Nat → Nat} {K : XK} {u : XS} {x0 : Nat} {x1 : Int32} {x2 : Int32} {host : String} {Post : Nat → XS → Prop} (hX : JX X own cc nL ret F LL mc ms) (hY : JY X D dA aK aV A) (h1a : K x0 = (1, 2)) (hlk : (Cond.methodLinkNest own ix yX2_at host) ∈ jx_nest) (hF : 0 + 1 ≤ F) (hL : 8 + (3 + 11) + 0 ≤ LL) (hk : k ≤ mc) (hk2 : n ≤ ms) (hw : (st.map fun v => v.category).sum ≤ 8) (d : decode cc pc = .ok (.invokevirtual ix, 3)) (q : Nat) (hq : pc + 3 = q) (h : xw2_at x0 x1 x2 K u  Post) (kk : ∀ (r : Nat) (u2 : XS), Post r u2 → JJ X A Q nL (XP D dA A K u2) k n q lv (.ref r :: st)) : JJ X A Q nL (XP D dA A K u) k n pc lv (.int x2 :: .int x1 :: .ref x0 :: st) :=
  jx_callNr (na := 2) (As := [.int x1, .int x2]) hX hY jf2 h1a (fun sz => mxw2_at (jj_l X) hY.2.2.2.2 D dA aK aV x0 x1 x2 K u  Post h sz) hlk q745 q746 q124 q747 hd_xw2_at rfl rfl hw hF hL hk hk2 d q hq kk
def xw6_sets_3_L16_S (Post : XS → Prop) (K : XK) (x0 : Nat) (x1 : Int32) (x2 : Int32) (x3 : Nat) (R : Int32 → XS → Prop) (x4 : Int32) (u : XS) : Prop :=
  ∃ n19, K x3 = (2, n19) ∧
  ((nI n19) ≤ x4 →
    K x0 = (1, 6) ∧
    ∃ b43, (xr u x0 14) = some b43 ∧
    ∃ n44, K b43 = (2, n44) ∧
    vp_in x1 n44 ∧
    vp_in x1 n44 ∧
    ∀ u47 : XS, u47 = xsi u b43 x1.toNatClampNeg ((xi u b43 x1.toNatClampNeg) + (1 : Int32)) →
    ∀ u55 : XS, u55 = xsi u47 x0 6 ((xi u47 x0 6) + (1 : Int32)) →
    (x2 = 0 →
      ∀ u74 : XS, u74 = xsi u55 x0 7 ((xi u55 x0 7) + (0 : Int32)) →
      Post u74) ∧
    (¬ x2 = 0 →
      ∀ u74 : XS, u74 = xsi u55 x0 7 ((xi u55 x0 7) + (nI n19)) →
      Post u74)) ∧
  (¬ (nI n19) ≤ x4 →
    vp_in x4 n19 ∧
    K x0 = (1, 6) ∧
    xw6_sets_2 x0 (xi u x3 x4.toNatClampNeg) x1 K u (fun u29 =>
      ∀ v32 : Int32, v32 = x4 + (1 : Int32) →
      R v32 u29))
def xw6_sets_3_L16 (Post : XS → Prop) (K : XK) (x0 : Nat) (x1 : Int32) (x2 : Int32) (x3 : Nat) : Nat → Int32 → XS → Prop
  | 0 => fun _ _ => False
  | n + 1 => fun x4 u => xw6_sets_3_L16_S Post K x0 x1 x2 x3 (xw6_sets_3_L16 Post K x0 x1 x2 x3 n) x4 u
/-- RaisedPress$Setter.sets(IZ)V -/
def xw6_sets_3 (x0 : Nat) (x1 : Int32) (x2 : Int32) (K : XK) (u : XS) (Post : XS → Prop) : Prop :=
  K x0 = (1, 6) ∧
  ∃ b4, (xr u x0 0) = some b4 ∧
  K b4 = (1, 5) ∧
  ∃ b8, (xr u b4 0) = some b8 ∧
  ∃ n8, K b8 = (7, n8) ∧
  vp_in x1 n8 ∧
  ∃ b9, (xr u b8 x1.toNatClampNeg) = some b9 ∧
  xRule K b9 ∧
  ∃ b12, (xr u b9 1) = some b12 ∧
  ∃ n, xw6_sets_3_L16 Post K x0 x1 x2 b12 n (0 : Int32) u
set_option maxHeartbeats 4000000 in
set_option maxRecDepth 100000 in
theorem txw6_sets_3_L16 {X : JC} {D : va_G} {dA aK aV : Nat → Nat} {sz : Nat} {K : XK} {Post : XS → Prop} {x0 : Nat} {x1 : Int32} {x2 : Int32} {x3 : Nat} (hX : JX X yX6_sets_3.cls cX6_sets_3 5 (Option.none : Option Jvm.ClassFile.FieldType) 1 22 0 0) (hY : JY X D dA aK aV (AX K sz)) : ∀ (n : Nat) (x4 : Int32) (u : XS), xw6_sets_3_L16 Post K x0 x1 x2 x3 n x4 u → JJ X (AX K sz) (jj_Q X (va_Qv (fun w : XS => Post w) (jx_B D dA K) (AX K sz)) 0 0 (AX K sz)) 5 (XP D dA (AX K sz) K u) 0 0 16 [(0, .ref x0), (1, .int x1), (2, .int x2), (3, .ref x3), (4, .int x4)] [] := by
  intro n
  induction n with
  | zero =>
    intro x4 u h
    exact h.elim
  | succ n ih =>
    intro x4 u h
    have h : xw6_sets_3_L16_S Post K x0 x1 x2 x3 (xw6_sets_3_L16 Post K x0 x1 x2 x3 n) x4 u := h
    unfold xw6_sets_3_L16_S at h
    refine jj_iload hX dX6_sets_3_16 4 rfl 18 rfl ?_
    refine jj_aload_n hX dX6_sets_3_18 3 rfl 19 rfl ?_
    obtain ⟨n19, k19, h⟩ := h
    refine jx_alen hX hY.1 k19 dX6_sets_3_19 20 rfl ?_
    refine jj_icmp_ge hX dX6_sets_3_20 38 23 (by decide) rfl (fun c20 => ?_) (fun c20 => ?_)
    · have h := h.1 c20
      refine jj_aload_n hX dX6_sets_3_38 0 rfl 39 rfl ?_
      obtain ⟨k39, h⟩ := h
      refine xg6_14 hX hY k39 dX6_sets_3_39 q354 42 rfl ?_
      refine jj_iload_n hX dX6_sets_3_42 1 rfl 43 rfl ?_
      obtain ⟨b43, g43, h⟩ := h
      refine jj_st (st2 := [.int x1, .ref b43]) (by rw [va_rf_some g43]) ?_
      refine jj_dup2 hX dX6_sets_3_43 rfl rfl 44 rfl ?_
      obtain ⟨n44, k44, h⟩ := h
      obtain ⟨hi44, h⟩ := h
      refine jx_iald hX hY.1 k44 _ rfl hi44 dX6_sets_3_44 45 rfl ?_
      refine jj_iconst hX dX6_sets_3_45 ci_1 46 rfl ?_
      refine jj_iadd hX dX6_sets_3_46 47 rfl ?_
      obtain ⟨hi47, h⟩ := h
      refine jx_iast hX hY.1 k44 _ rfl hi47 dX6_sets_3_47 48 rfl (fun u47 e47 => ?_)
      have h := h u47 e47
      refine jj_aload_n hX dX6_sets_3_48 0 rfl 49 rfl ?_
      refine jj_dup hX dX6_sets_3_49 rfl 50 rfl ?_
      refine xg6_6 hX hY k39 dX6_sets_3_50 q345 53 rfl ?_
      refine jj_iconst hX dX6_sets_3_53 ci_1 54 rfl ?_
      refine jj_iadd hX dX6_sets_3_54 55 rfl ?_
      refine xp6_6 hX hY k39 dX6_sets_3_55 q345 58 rfl (fun u55 e55 => ?_)
      have h := h u55 e55
      refine jj_aload_n hX dX6_sets_3_58 0 rfl 59 rfl ?_
      refine jj_dup hX dX6_sets_3_59 rfl 60 rfl ?_
      refine xg6_7 hX hY k39 dX6_sets_3_60 q346 63 rfl ?_
      refine jj_iload_n hX dX6_sets_3_63 2 rfl 64 rfl ?_
      refine jj_if_eq hX dX6_sets_3_64 72 67 (by decide) rfl (fun c64 => ?_) (fun c64 => ?_)
      · have h := h.1 c64
        refine jj_iconst hX dX6_sets_3_72 ci_0 73 rfl ?_
        refine jj_iadd hX dX6_sets_3_73 74 rfl ?_
        refine xp6_7 hX hY k39 dX6_sets_3_74 q346 77 rfl (fun u74 e74 => ?_)
        have h := h u74 e74
        exact jj_retv (post := (fun w : XS => Post w)) (u := u74) hX dX6_sets_3_77 (Nat.le_refl 0) (Nat.le_refl 0) jx_hB h
      · have h := h.2 c64
        refine jj_aload_n hX dX6_sets_3_67 3 rfl 68 rfl ?_
        refine jx_alen hX hY.1 k19 dX6_sets_3_68 69 rfl ?_
        refine jj_goto hX dX6_sets_3_69 73 (by decide) ?_
        refine jj_iadd hX dX6_sets_3_73 74 rfl ?_
        refine xp6_7 hX hY k39 dX6_sets_3_74 q346 77 rfl (fun u74 e74 => ?_)
        have h := h u74 e74
        exact jj_retv (post := (fun w : XS => Post w)) (u := u74) hX dX6_sets_3_77 (Nat.le_refl 0) (Nat.le_refl 0) jx_hB h
    · have h := h.2 c20
      refine jj_aload_n hX dX6_sets_3_23 0 rfl 24 rfl ?_
      refine jj_aload_n hX dX6_sets_3_24 3 rfl 25 rfl ?_
      refine jj_iload hX dX6_sets_3_25 4 rfl 27 rfl ?_
      obtain ⟨hi27, h⟩ := h
      refine jx_iald hX hY.1 k19 _ rfl hi27 dX6_sets_3_27 28 rfl ?_
      refine jj_iload_n hX dX6_sets_3_28 1 rfl 29 rfl ?_
      obtain ⟨k29, h⟩ := h
      refine kxw6_sets_2 hX hY k29 q892 (Nat.le_of_ble_eq_true rfl) (Nat.le_of_ble_eq_true rfl) (Nat.zero_le _) (Nat.zero_le _) (Nat.le_of_ble_eq_true rfl) dX6_sets_3_29 32 rfl h (fun u29 h => ?_)
      obtain ⟨v32, e32⟩ : ∃ y : Int32, y = x4 + (1 : Int32) := ⟨_, rfl⟩
      have h := h v32 e32
      refine jj_iinc (v := v32) (lv2 := [(0, .ref x0), (1, .int x1), (2, .int x2), (3, .ref x3), (4, .int v32)]) hX dX6_sets_3_32 4 rfl (by rw [e32, ci_1]) (Nat.le_of_ble_eq_true rfl) [1, 2, 3, 4, 0] rfl 35 rfl ?_
      refine jj_goto hX dX6_sets_3_35 16 (by decide) ?_
      exact ih _ _ h
set_option maxHeartbeats 4000000 in
set_option maxRecDepth 100000 in
theorem mxw6_sets_3 (l : Launch) (hfl : l.stackTraces = false) (D : va_G) (dA aK aV : Nat → Nat) (x0 : Nat) (x1 : Int32) (x2 : Int32) (K : XK) (u : XS) (Post : XS → Prop) (h : xw6_sets_3 x0 x1 x2 K u Post) (sz : Nat) : Met l yX6_sets_3 (ws_ yX6_sets_3 cX6_sets_3 5 (Option.none : Option Jvm.ClassFile.FieldType)) (jx_rm 1 22 0 0) (jx_Pc D dA aK aV K u sz [.ref x0, .int x1, .int x2]) (va_Qv (fun w : XS => Post w) (jx_B D dA K) (AX K sz)) 0 0 (AX K sz) := by
  refine jx_start hfl [.ref x0, .int x1, .int x2] [(0, .ref x0), (1, .int x1), (2, .int x2)] (by decide) (Nat.le_of_ble_eq_true rfl) rfl (fun X hX hY hin => ?_)
  unfold xw6_sets_3 at h
  refine jj_aload_n hX dX6_sets_3_0 0 rfl 1 rfl ?_
  obtain ⟨k1, h⟩ := h
  refine xg6_0 hX hY k1 dX6_sets_3_1 q334 4 rfl ?_
  obtain ⟨b4, g4, h⟩ := h
  refine jj_st (st2 := [.ref b4]) (by rw [va_rf_some g4]) ?_
  obtain ⟨k4, h⟩ := h
  refine xgn5_0 hX hY k4 dX6_sets_3_4 nq274 7 rfl ?_
  refine jj_iload_n hX dX6_sets_3_7 1 rfl 8 rfl ?_
  obtain ⟨b8, g8, h⟩ := h
  refine jj_st (st2 := [.int x1, .ref b8]) (by rw [va_rf_some g8]) ?_
  obtain ⟨n8, k8, h⟩ := h
  obtain ⟨hi8, h⟩ := h
  refine jx_aald5 hX hY.1 k8 _ rfl hi8 dX6_sets_3_8 9 rfl ?_
  obtain ⟨b9, g9, h⟩ := h
  refine jj_st (st2 := [.ref b9]) (by rw [va_rf_some g9]) ?_
  obtain ⟨k9, h⟩ := h
  refine xgr_1 hX hY k9 dX6_sets_3_9 q776 12 rfl ?_
  obtain ⟨b12, g12, h⟩ := h
  refine jj_st (st2 := [.ref b12]) (by rw [va_rf_some g12]) ?_
  refine jj_astore_n (lv2 := [(0, .ref x0), (1, .int x1), (2, .int x2), (3, .ref b12)]) hX dX6_sets_3_12 (Nat.le_of_ble_eq_true rfl) [1, 2, 3, 0] rfl 13 rfl ?_
  refine jj_iconst hX dX6_sets_3_13 ci_0 14 rfl ?_
  refine jj_istore (lv2 := [(0, .ref x0), (1, .int x1), (2, .int x2), (3, .ref b12), (4, .int (0 : Int32))]) hX dX6_sets_3_14 (Nat.le_of_ble_eq_true rfl) [1, 2, 3, 4, 0] rfl 16 rfl ?_
  obtain ⟨n9, h⟩ := h
  exact txw6_sets_3_L16 hX hY n9 _ _ h
theorem hd_xw6_sets_3 : yX6_sets_3.cls ≠ "java/lang/invoke/MethodHandle" ∧ yX6_sets_3.cls ≠ "java/lang/invoke/VarHandle" ∧ (parseMethodDescriptor yX6_sets_3.desc).map (fun d => d.parameters.length) = some 2 := by decide +kernel
theorem kxw6_sets_3 {X : JC} {A : Nat → Prop} {Q : State → Prop} {nL k n pc : Nat} {lv : List (Nat × Value)} {st : List Value} {own : String} {cc : ByteArray} {ret : Option FieldType} {F LL mc ms ix : Nat} {D : va_G} {dA aK aV : Nat → Nat} {K : XK} {u : XS} {x0 : Nat} {x1 : Int32} {x2 : Int32} {Post : XS → Prop} (hX : JX X own cc nL ret F LL mc ms) (hY : JY X D dA aK aV A) (h1a : K x0 = (1, 6)) (hlk : (Cond.methodLink own ix yX6_sets_3) ∈ lw_all) (hF : 1 + 1 ≤ F) (hL : 8 + (5 + 11) + 22 ≤ LL) (hk : k ≤ mc) (hk2 : n ≤ ms) (hw : (st.map fun v => v.category).sum ≤ 8) (d : decode cc pc = .ok (.invokevirtual ix, 3)) (q : Nat) (hq : pc + 3 = q) (h : xw6_sets_3 x0 x1 x2 K u  Post) (kk : ∀ (u2 : XS), Post u2 → JJ X A Q nL (XP D dA A K u2) k n q lv (st)) : JJ X A Q nL (XP D dA A K u) k n pc lv (.int x2 :: .int x1 :: .ref x0 :: st) :=
  jx_callVv (na := 2) (As := [.int x1, .int x2]) hX hY jf6 h1a (fun sz => mxw6_sets_3 (jj_l X) hY.2.2.2.2 D dA aK aV x0 x1 x2 K u  Post h sz) hlk q948 qs25 q128 q949 ⟨rfl, hd_xw6_sets_3⟩ rfl rfl hw hF hL hk hk2 d q hq kk
theorem knxw6_sets_3 {X : JC} {A : Nat → Prop} {Q : State → Prop} {nL k n pc : Nat} {lv : List (Nat × Value)} {st : List Value} {own : String} {cc : ByteArray} {ret : Option FieldType} {F LL mc ms ix : Nat} {D : va_G} {dA aK aV : Nat → Nat} {K : XK} {u : XS} {x0 : Nat} {x1 : Int32} {x2 : Int32} {host : String} {Post : XS → Prop} (hX : JX X own cc nL ret F LL mc ms) (hY : JY X D dA aK aV A) (h1a : K x0 = (1, 6)) (hlk : (Cond.methodLinkNest own ix yX6_sets_3 host) ∈ jx_nest) (hF : 1 + 1 ≤ F) (hL : 8 + (5 + 11) + 22 ≤ LL) (hk : k ≤ mc) (hk2 : n ≤ ms) (hw : (st.map fun v => v.category).sum ≤ 8) (d : decode cc pc = .ok (.invokevirtual ix, 3)) (q : Nat) (hq : pc + 3 = q) (h : xw6_sets_3 x0 x1 x2 K u  Post) (kk : ∀ (u2 : XS), Post u2 → JJ X A Q nL (XP D dA A K u2) k n q lv (st)) : JJ X A Q nL (XP D dA A K u) k n pc lv (.int x2 :: .int x1 :: .ref x0 :: st) :=
  jx_callNv (na := 2) (As := [.int x1, .int x2]) hX hY jf6 h1a (fun sz => mxw6_sets_3 (jj_l X) hY.2.2.2.2 D dA aK aV x0 x1 x2 K u  Post h sz) hlk q948 qs25 q128 q949 hd_xw6_sets_3 rfl rfl hw hF hL hk hk2 d q hq kk
def xw6_word_B86 (G8 : Int32 → XK → XS → Nat → Nat → Prop) (Post : Int32 → XK → XS → Prop) (PX : Nat → XK → XS → Prop) (mc ms : Nat) (x0 : Nat) (x1 : Int32) (x2 : Int32) (x3 : Int32) (x4 : Int32) (K : XK) (u : XS) (c s : Nat) : Prop :=
  K x0 = (1, 6) ∧
  xw6_sets_3 x0 x4 (1 : Int32) K u (fun u90 =>
    ∃ b98, (xr u90 x0 0) = some b98 ∧
    K b98 = (1, 5) ∧
    ∃ b103, (xr u90 b98 0) = some b103 ∧
    ∃ n103, K b103 = (7, n103) ∧
    vp_in x4 n103 ∧
    ∃ b104, (xr u90 b103 x4.toNatClampNeg) = some b104 ∧
    xRule K b104 ∧
    ∃ b107, (xr u90 b104 0) = some b107 ∧
    ∃ n107, K b107 = (3, n107) ∧
    ∀ v109 : Int32, v109 = (x3 + (nI n107)) →
    G8 v109 K u90 c s)
def xw6_word_L8_S (Post : Int32 → XK → XS → Prop) (PX : Nat → XK → XS → Prop) (mc ms : Nat) (x0 : Nat) (x1 : Int32) (x2 : Int32) (R : Int32 → XK → XS → Nat → Nat → Prop) (x3 : Int32) (K : XK) (u : XS) (c s : Nat) : Prop :=
  (x2 ≤ x3 →
    Post x2 K u) ∧
  (¬ x2 ≤ x3 →
    K x0 = (1, 6) ∧
    xw6_taken x0 x3 x1 x2 K u (fun r17 u17 =>
      (0 ≤ r17 →
        ∃ b45, (xr u17 x0 2) = some b45 ∧
        ∃ n45, K b45 = (3, n45) ∧
        vp_in x3 n45 ∧
        xs_isGreat (xi u17 b45 x3.toNatClampNeg) (fun r46 =>
          (r46 = 0 →
            xw6_word_B86 R Post PX mc ms x0 x1 x2 x3 r17 K u17 c s) ∧
          (¬ r46 = 0 →
            ∃ b56, (xr u17 x0 0) = some b56 ∧
            K b56 = (1, 5) ∧
            (0 ≤ (xi u17 b56 2) →
              ∃ b80, (xr u17 x0 0) = some b80 ∧
              K b80 = (1, 5) ∧
              xw6_sets x0 (xi u17 b80 2) K u17 (fun u83 =>
                xw6_word_B86 R Post PX mc ms x0 x1 x2 x3 r17 K u83 c s)) ∧
            (¬ 0 ≤ (xi u17 b56 2) →
              ∃ b66, (xr u17 x0 21) = some b66 ∧
              K b66 = (1, 0) ∧
              ∃ b71, (xr u17 b66 1) = some b71 ∧
              K b71 = (1, 2) ∧
              xw2_at b71 (5 : Int32) x3 K u17 (fun r71 u71 =>
                K r71 = (1, 2) ∧
                PX r71 K u71))))) ∧
      (¬ 0 ≤ r17 →
        ∃ b31, (xr u17 x0 21) = some b31 ∧
        K b31 = (1, 0) ∧
        ∃ b36, (xr u17 b31 1) = some b36 ∧
        K b36 = (1, 2) ∧
        xw2_at b36 (3 : Int32) x3 K u17 (fun r36 u36 =>
          K r36 = (1, 2) ∧
          PX r36 K u36))))
def xw6_word_L8 (Post : Int32 → XK → XS → Prop) (PX : Nat → XK → XS → Prop) (mc ms : Nat) (x0 : Nat) (x1 : Int32) (x2 : Int32) : Nat → Int32 → XK → XS → Nat → Nat → Prop
  | 0 => fun _ _ _ _ _ => False
  | n + 1 => fun x3 K u c s => xw6_word_L8_S Post PX mc ms x0 x1 x2 (xw6_word_L8 Post PX mc ms x0 x1 x2 n) x3 K u c s
/-- RaisedPress$Setter.word(I)I -/
def xw6_word (x0 : Nat) (x1 : Int32) (K : XK) (u : XS) (mc ms : Nat) (Post : Int32 → XK → XS → Prop) (PX : Nat → XK → XS → Prop) : Prop :=
  K x0 = (1, 6) ∧
  xw6_wordEnd x0 x1 K u (fun r2 u2 =>
    ∃ n, xw6_word_L8 Post PX mc ms x0 x1 r2 n x1 K u2 0 0)
set_option maxHeartbeats 4000000 in
set_option maxRecDepth 100000 in
theorem txw6_word_B86 {X : JC} {D : va_G} {dA aK aV : Nat → Nat} {sz : Nat} {K0 : XK} {mc ms : Nat} {G8 : Int32 → XK → XS → Nat → Nat → Prop} {Post : Int32 → XK → XS → Prop} {PX : Nat → XK → XS → Prop} {x0 : Nat} {x1 : Int32} {x2 : Int32} {x3 : Int32} {x4 : Int32} {K : XK} {u : XS} {c s : Nat} (hX : JX X yX6_word.cls cX6_word 5 (Option.some Jvm.ClassFile.FieldType.int) 4 92 mc ms) (hY : JY X D dA aK aV (AX K0 sz)) (hE : JE X []) (hG8 : ∀ (y3 : Int32) (K : XK) (u : XS) (c s : Nat) (hl : XLe K0 K) (hc : c ≤ mc) (hs : s ≤ ms), G8 y3 K u c s → JJ X (AX K0 sz) (jx_QX X (va_Qi (fun (r : Int32) (w : XK × XS) => Post r w.1 w.2) (jx_BA D dA K0 sz) (AX K0 sz)) (jx_XC 2 PX D dA K0 sz (AX K0 sz)) mc ms (AX K0 sz)) 5 (XP D dA (AX K0 sz) K u) c s 8 [(0, .ref x0), (1, .int x1), (2, .int x2), (3, .int y3)] []) (hl : XLe K0 K) (hc : c ≤ mc) (hs : s ≤ ms) (h : xw6_word_B86 G8 Post PX mc ms x0 x1 x2 x3 x4  K u c s) : JJ X (AX K0 sz) (jx_QX X (va_Qi (fun (r : Int32) (w : XK × XS) => Post r w.1 w.2) (jx_BA D dA K0 sz) (AX K0 sz)) (jx_XC 2 PX D dA K0 sz (AX K0 sz)) mc ms (AX K0 sz)) 5 (XP D dA (AX K0 sz) K u) c s 86 [(0, .ref x0), (1, .int x1), (2, .int x2), (3, .int x3), (4, .int x4)] [] := by
  unfold xw6_word_B86 at h
  refine jj_aload_n hX dX6_word_86 0 rfl 87 rfl ?_
  refine jj_iload hX dX6_word_87 4 rfl 89 rfl ?_
  refine jj_iconst hX dX6_word_89 ci_1 90 rfl ?_
  obtain ⟨k90, h⟩ := h
  refine kxw6_sets_3 hX hY k90 q946 (Nat.le_of_ble_eq_true rfl) (Nat.le_of_ble_eq_true rfl) hc hs (Nat.le_of_ble_eq_true rfl) dX6_word_90 93 rfl h (fun u90 h => ?_)
  refine jj_iload_n hX dX6_word_93 3 rfl 94 rfl ?_
  refine jj_aload_n hX dX6_word_94 0 rfl 95 rfl ?_
  refine xg6_0 hX hY k90 dX6_word_95 q334 98 rfl ?_
  obtain ⟨b98, g98, h⟩ := h
  refine jj_st (st2 := [.ref b98, .int x3]) (by rw [va_rf_some g98]) ?_
  obtain ⟨k98, h⟩ := h
  refine xgn5_0 hX hY k98 dX6_word_98 nq274 101 rfl ?_
  refine jj_iload hX dX6_word_101 4 rfl 103 rfl ?_
  obtain ⟨b103, g103, h⟩ := h
  refine jj_st (st2 := [.int x4, .ref b103, .int x3]) (by rw [va_rf_some g103]) ?_
  obtain ⟨n103, k103, h⟩ := h
  obtain ⟨hi103, h⟩ := h
  refine jx_aald5 hX hY.1 k103 _ rfl hi103 dX6_word_103 104 rfl ?_
  obtain ⟨b104, g104, h⟩ := h
  refine jj_st (st2 := [.ref b104, .int x3]) (by rw [va_rf_some g104]) ?_
  obtain ⟨k104, h⟩ := h
  refine xgr_0 hX hY k104 dX6_word_104 q773 107 rfl ?_
  obtain ⟨b107, g107, h⟩ := h
  refine jj_st (st2 := [.ref b107, .int x3]) (by rw [va_rf_some g107]) ?_
  obtain ⟨n107, k107, h⟩ := h
  refine jx_alen hX hY.1 k107 dX6_word_107 108 rfl ?_
  refine jj_iadd hX dX6_word_108 109 rfl ?_
  refine jj_topi (fun v109 e109 => ?_)
  have h := h v109 e109
  refine jj_istore_n (lv2 := [(0, .ref x0), (1, .int x1), (2, .int x2), (3, .int v109)]) hX dX6_word_109 (Nat.le_of_ble_eq_true rfl) [1, 2, 3, 0] rfl 110 rfl ?_
  refine jj_goto hX dX6_word_110 8 (by decide) ?_
  exact hG8 _ _ _ _ _ hl hc hs h
set_option maxHeartbeats 4000000 in
set_option maxRecDepth 100000 in
theorem txw6_word_L8 {X : JC} {D : va_G} {dA aK aV : Nat → Nat} {sz : Nat} {K0 : XK} {mc ms : Nat} {Post : Int32 → XK → XS → Prop} {PX : Nat → XK → XS → Prop} {x0 : Nat} {x1 : Int32} {x2 : Int32} (hX : JX X yX6_word.cls cX6_word 5 (Option.some Jvm.ClassFile.FieldType.int) 4 92 mc ms) (hY : JY X D dA aK aV (AX K0 sz)) (hE : JE X []) : ∀ (n : Nat) (x3 : Int32) (K : XK) (u : XS) (c s : Nat) (hl : XLe K0 K) (hc : c ≤ mc) (hs : s ≤ ms), xw6_word_L8 Post PX mc ms x0 x1 x2 n x3 K u c s → JJ X (AX K0 sz) (jx_QX X (va_Qi (fun (r : Int32) (w : XK × XS) => Post r w.1 w.2) (jx_BA D dA K0 sz) (AX K0 sz)) (jx_XC 2 PX D dA K0 sz (AX K0 sz)) mc ms (AX K0 sz)) 5 (XP D dA (AX K0 sz) K u) c s 8 [(0, .ref x0), (1, .int x1), (2, .int x2), (3, .int x3)] [] := by
  intro n
  induction n with
  | zero =>
    intro x3 K u c s hl hc hs h
    exact h.elim
  | succ n ih =>
    intro x3 K u c s hl hc hs h
    have h : xw6_word_L8_S Post PX mc ms x0 x1 x2 (xw6_word_L8 Post PX mc ms x0 x1 x2 n) x3 K u c s := h
    unfold xw6_word_L8_S at h
    refine jj_iload_n hX dX6_word_8 3 rfl 9 rfl ?_
    refine jj_iload_n hX dX6_word_9 2 rfl 10 rfl ?_
    refine jj_icmp_ge hX dX6_word_10 113 13 (by decide) rfl (fun c10 => ?_) (fun c10 => ?_)
    · have h := h.1 c10
      refine jj_iload_n hX dX6_word_113 2 rfl 114 rfl ?_
      exact jt_ret (jj_reti (post := (fun (r : Int32) (w : XK × XS) => Post r w.1 w.2)) (u := (K, u)) hX dX6_word_114 hc hs (jx_hBA hl) h)
    · have h := h.2 c10
      refine jj_aload_n hX dX6_word_13 0 rfl 14 rfl ?_
      refine jj_iload_n hX dX6_word_14 3 rfl 15 rfl ?_
      refine jj_iload_n hX dX6_word_15 1 rfl 16 rfl ?_
      refine jj_iload_n hX dX6_word_16 2 rfl 17 rfl ?_
      obtain ⟨k17, h⟩ := h
      refine kxw6_taken hX hY k17 q911 (Nat.le_of_ble_eq_true rfl) (Nat.le_of_ble_eq_true rfl) hc hs (Nat.le_of_ble_eq_true rfl) dX6_word_17 20 rfl h (fun r17 u17 h => ?_)
      refine jj_istore (lv2 := [(0, .ref x0), (1, .int x1), (2, .int x2), (3, .int x3), (4, .int r17)]) hX dX6_word_20 (Nat.le_of_ble_eq_true rfl) [1, 2, 3, 4, 0] rfl 22 rfl ?_
      refine jj_iload hX dX6_word_22 4 rfl 24 rfl ?_
      refine jj_if_ge hX dX6_word_24 40 27 (by decide) rfl (fun c24 => ?_) (fun c24 => ?_)
      · have h := h.1 c24
        refine jj_aload_n hX dX6_word_40 0 rfl 41 rfl ?_
        refine xg6_2 hX hY k17 dX6_word_41 q338 44 rfl ?_
        refine jj_iload_n hX dX6_word_44 3 rfl 45 rfl ?_
        obtain ⟨b45, g45, h⟩ := h
        refine jj_st (st2 := [.int x3, .ref b45]) (by rw [va_rf_some g45]) ?_
        obtain ⟨n45, k45, h⟩ := h
        obtain ⟨hi45, h⟩ := h
        refine jx_bald hX hY.1 k45 _ rfl hi45 dX6_word_45 46 rfl ?_
        refine knxs_isGreat hX XP.keeps hY.2.1 nq941 (Nat.le_of_ble_eq_true rfl) (Nat.le_of_ble_eq_true rfl) hc hs (Nat.le_of_ble_eq_true rfl) dX6_word_46 49 rfl h (fun r46 hb46 h => ?_)
        refine jj_if_eq hX dX6_word_49 86 52 (by decide) rfl (fun c49 => ?_) (fun c49 => ?_)
        · have h := h.1 c49
          exact txw6_word_B86 hX hY hE ih hl hc hs h
        · have h := h.2 c49
          refine jj_aload_n hX dX6_word_52 0 rfl 53 rfl ?_
          refine xg6_0 hX hY k17 dX6_word_53 q334 56 rfl ?_
          obtain ⟨b56, g56, h⟩ := h
          refine jj_st (st2 := [.ref b56]) (by rw [va_rf_some g56]) ?_
          obtain ⟨k56, h⟩ := h
          refine xgn5_2 hX hY k56 dX6_word_56 nq282 59 rfl ?_
          refine jj_if_ge hX dX6_word_59 75 62 (by decide) rfl (fun c59 => ?_) (fun c59 => ?_)
          · have h := h.1 c59
            refine jj_aload_n hX dX6_word_75 0 rfl 76 rfl ?_
            refine jj_aload_n hX dX6_word_76 0 rfl 77 rfl ?_
            refine xg6_0 hX hY k17 dX6_word_77 q334 80 rfl ?_
            obtain ⟨b80, g80, h⟩ := h
            refine jj_st (st2 := [.ref b80, .ref x0]) (by rw [va_rf_some g80]) ?_
            obtain ⟨k80, h⟩ := h
            refine xgn5_2 hX hY k80 dX6_word_80 nq282 83 rfl ?_
            refine kxw6_sets hX hY k17 q888 (Nat.le_of_ble_eq_true rfl) (Nat.le_of_ble_eq_true rfl) hc hs (Nat.le_of_ble_eq_true rfl) dX6_word_83 86 rfl h (fun u83 h => ?_)
            exact txw6_word_B86 hX hY hE ih hl hc hs h
          · have h := h.2 c59
            refine jj_aload_n hX dX6_word_62 0 rfl 63 rfl ?_
            refine xg6_21 hX hY k17 dX6_word_63 q361 66 rfl ?_
            obtain ⟨b66, g66, h⟩ := h
            refine jj_st (st2 := [.ref b66]) (by rw [va_rf_some g66]) ?_
            obtain ⟨k66, h⟩ := h
            refine xgn0_1 hX hY k66 dX6_word_66 nq410 69 rfl ?_
            refine jj_iconst hX dX6_word_69 ci_5 70 rfl ?_
            refine jj_iload_n hX dX6_word_70 3 rfl 71 rfl ?_
            obtain ⟨b71, g71, h⟩ := h
            refine jj_st (st2 := [.int x3, .int (5 : Int32), .ref b71]) (by rw [va_rf_some g71]) ?_
            obtain ⟨k71, h⟩ := h
            refine kxw2_at hX hY k71 q945 (Nat.le_of_ble_eq_true rfl) (Nat.le_of_ble_eq_true rfl) hc hs (Nat.le_of_ble_eq_true rfl) dX6_word_71 74 rfl h (fun r71 u71 h => ?_)
            obtain ⟨k74, h⟩ := h
            refine jj_athrow hX hY jf2 k74 dX6_word_74 ?_
            exact jt_out (e := 2) hX hE hc hs hl h
      · have h := h.2 c24
        refine jj_aload_n hX dX6_word_27 0 rfl 28 rfl ?_
        refine xg6_21 hX hY k17 dX6_word_28 q361 31 rfl ?_
        obtain ⟨b31, g31, h⟩ := h
        refine jj_st (st2 := [.ref b31]) (by rw [va_rf_some g31]) ?_
        obtain ⟨k31, h⟩ := h
        refine xgn0_1 hX hY k31 dX6_word_31 nq410 34 rfl ?_
        refine jj_iconst hX dX6_word_34 ci_3 35 rfl ?_
        refine jj_iload_n hX dX6_word_35 3 rfl 36 rfl ?_
        obtain ⟨b36, g36, h⟩ := h
        refine jj_st (st2 := [.int x3, .int (3 : Int32), .ref b36]) (by rw [va_rf_some g36]) ?_
        obtain ⟨k36, h⟩ := h
        refine kxw2_at hX hY k36 q945 (Nat.le_of_ble_eq_true rfl) (Nat.le_of_ble_eq_true rfl) hc hs (Nat.le_of_ble_eq_true rfl) dX6_word_36 39 rfl h (fun r36 u36 h => ?_)
        obtain ⟨k39, h⟩ := h
        refine jj_athrow hX hY jf2 k39 dX6_word_39 ?_
        exact jt_out (e := 2) hX hE hc hs hl h
set_option maxHeartbeats 4000000 in
set_option maxRecDepth 100000 in
theorem mxw6_word (l : Launch) (hfl : l.stackTraces = false) (D : va_G) (dA aK aV : Nat → Nat) (x0 : Nat) (x1 : Int32) (K : XK) (u : XS) (mc ms : Nat) (Post : Int32 → XK → XS → Prop) (PX : Nat → XK → XS → Prop) (h : xw6_word x0 x1 K u mc ms Post PX) (sz : Nat) : vx_Met l yX6_word (ws_ yX6_word cX6_word 5 (Option.some Jvm.ClassFile.FieldType.int)) (jx_rm 4 92 mc ms) (jx_Pc D dA aK aV K u sz [.ref x0, .int x1]) (va_Qi (fun (r : Int32) (w : XK × XS) => Post r w.1 w.2) (jx_BA D dA K sz) (AX K sz)) (jx_XC 2 PX D dA K sz (AX K sz)) mc ms (AX K sz) := by
  refine jx_startT hfl [.ref x0, .int x1] [(0, .ref x0), (1, .int x1)] (by decide) (Nat.le_of_ble_eq_true rfl) rfl (fun X hX hY hE => ?_)
  unfold xw6_word at h
  refine jj_aload_n hX dX6_word_0 0 rfl 1 rfl ?_
  refine jj_iload_n hX dX6_word_1 1 rfl 2 rfl ?_
  obtain ⟨k2, h⟩ := h
  refine kxw6_wordEnd hX hY k2 q907 (Nat.le_of_ble_eq_true rfl) (Nat.le_of_ble_eq_true rfl) (Nat.zero_le _) (Nat.zero_le _) (Nat.le_of_ble_eq_true rfl) dX6_word_2 5 rfl h (fun r2 u2 h => ?_)
  refine jj_istore_n (lv2 := [(0, .ref x0), (1, .int x1), (2, .int r2)]) hX dX6_word_5 (Nat.le_of_ble_eq_true rfl) [1, 2, 0] rfl 6 rfl ?_
  refine jj_iload_n hX dX6_word_6 1 rfl 7 rfl ?_
  refine jj_istore_n (lv2 := [(0, .ref x0), (1, .int x1), (2, .int r2), (3, .int x1)]) hX dX6_word_7 (Nat.le_of_ble_eq_true rfl) [1, 2, 3, 0] rfl 8 rfl ?_
  obtain ⟨n9, h⟩ := h
  exact txw6_word_L8 hX hY hE n9 _ _ _ _ _ XLe.rf (Nat.zero_le _) (Nat.zero_le _) h
theorem hd_xw6_word : yX6_word.cls ≠ "java/lang/invoke/MethodHandle" ∧ yX6_word.cls ≠ "java/lang/invoke/VarHandle" ∧ (parseMethodDescriptor yX6_word.desc).map (fun d => d.parameters.length) = some 1 := by decide +kernel
theorem kxw6_word {X : JC} {A : Nat → Prop} {Q : State → Prop} {nL k n pc : Nat} {lv : List (Nat × Value)} {st : List Value} {own : String} {cc : ByteArray} {ret : Option FieldType} {F LL mc ms ix mc2 ms2 : Nat} {D : va_G} {dA aK aV : Nat → Nat} {K : XK} {u : XS} {x0 : Nat} {x1 : Int32} {Post : Int32 → XK → XS → Prop} {PX : Nat → XK → XS → Prop} (hX : JX X own cc nL ret F LL mc ms) (hY : JY X D dA aK aV A) (h1a : K x0 = (1, 6)) (hlk : (Cond.methodLink own ix yX6_word) ∈ lw_all) (hF : 4 + 1 ≤ F) (hL : 8 + (5 + 11) + 92 ≤ LL) (hk : k + mc2 ≤ mc) (hk2 : n + ms2 ≤ ms) (hw : (st.map fun v => v.category).sum ≤ 8) (d : decode cc pc = .ok (.invokevirtual ix, 3)) (q : Nat) (hq : pc + 3 = q) (h : xw6_word x0 x1 K u mc2 ms2 Post PX) (kx : ∀ (q9 : Nat) (K2 : XK) (u2 : XS), XLe K K2 → PX q9 K2 u2 → JT X A Q nL (XP D dA A K2 u2) (k + mc2) (n + ms2) pc lv (jx_en 2) q9) (kk : ∀ (r : Int32) (K2 : XK) (u2 : XS), XLe K K2 → Post r K2 u2 → JJ X A Q nL (XP D dA A K2 u2) (k + mc2) (n + ms2) q lv (.int r :: st)) : JJ X A Q nL (XP D dA A K u) k n pc lv (.int x1 :: .ref x0 :: st) :=
  jx_callTVi (na := 1) (As := [.int x1]) hX hY jf6 h1a (fun sz => mxw6_word (jj_l X) hY.2.2.2.2 D dA aK aV x0 x1 K u mc2 ms2 Post PX h sz) hlk q905 qs23 q128 q906 ⟨rfl, hd_xw6_word⟩ rfl rfl hw hF hL hk hk2 d q hq kx kk
