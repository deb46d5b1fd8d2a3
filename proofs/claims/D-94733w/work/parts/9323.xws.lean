set_option linter.unusedVariables false
def xw8_isWord_L28_S (Post : Int32 → XS → Prop) (K : XK) (x0 : Nat) (x1 : Nat) (R : Int32 → XS → Prop) (x2 : Int32) (u : XS) : Prop :=
  x1 < 12 ∧
  ((nI (xe_len.getD x1 0)) ≤ x2 →
    Post (1 : Int32) u) ∧
  (¬ (nI (xe_len.getD x1 0)) ≤ x2 →
    K x0 = (1, 8) ∧
    ∃ b40, (xr u x0 7) = some b40 ∧
    K b40 = (1, 0) ∧
    ∃ b49, (xr u b40 2) = some b49 ∧
    ∃ n49, K b49 = (3, n49) ∧
    vp_in ((xi u x0 1) + x2) n49 ∧
    vp_in x2 (xe_len.getD x1 0) ∧
    ((xi u b49 ((xi u x0 1) + x2).toNatClampNeg) = (xe_c x1 x2.toNatClampNeg) →
      ∀ v60 : Int32, v60 = x2 + (1 : Int32) →
      R v60 u) ∧
    (¬ (xi u b49 ((xi u x0 1) + x2).toNatClampNeg) = (xe_c x1 x2.toNatClampNeg) →
      Post (0 : Int32) u))
def xw8_isWord_L28 (Post : Int32 → XS → Prop) (K : XK) (x0 : Nat) (x1 : Nat) : Nat → Int32 → XS → Prop
  | 0 => fun _ _ => False
  | n + 1 => fun x2 u => xw8_isWord_L28_S Post K x0 x1 (xw8_isWord_L28 Post K x0 x1 n) x2 u
/-- RaisedPress$Reader.isWord(Ljava/lang/String;)Z -/
def xw8_isWord (x0 : Nat) (x1 : Nat) (K : XK) (u : XS) (Post : Int32 → XS → Prop) : Prop :=
  K x0 = (1, 8) ∧
  (¬ (xi u x0 3) = (1 : Int32) →
    Post (0 : Int32) u) ∧
  ((xi u x0 3) = (1 : Int32) →
    x1 < 12 ∧
    (((xi u x0 2) - (xi u x0 1)) = (nI (xe_len.getD x1 0)) →
      ∃ n, xw8_isWord_L28 Post K x0 x1 n (0 : Int32) u) ∧
    (¬ ((xi u x0 2) - (xi u x0 1)) = (nI (xe_len.getD x1 0)) →
      Post (0 : Int32) u))
set_option maxHeartbeats 4000000 in
set_option maxRecDepth 100000 in
theorem txw8_isWord_L28 {X : JC} {D : va_G} {dA aK aV : Nat → Nat} {sz : Nat} {K : XK} {Post : Int32 → XS → Prop} {x0 : Nat} {x1 : Nat} (hX : JX X yX8_isWord.cls cX8_isWord 3 (Option.some Jvm.ClassFile.FieldType.boolean) 4 85 0 0) (hY : JY X D dA aK aV (AX K sz)) : ∀ (n : Nat) (x2 : Int32) (u : XS), xw8_isWord_L28 Post K x0 x1 n x2 u → JJ X (AX K sz) (jj_Q X (va_Qi (fun (r : Int32) (w : XS) => Post r w ∧ jj_z r) (jx_B D dA K) (AX K sz)) 0 0 (AX K sz)) 3 (XP D dA (AX K sz) K u) 0 0 28 [(0, .ref x0), (1, .ref (aK x1)), (2, .int x2)] [] := by
  intro n
  induction n with
  | zero =>
    intro x2 u h
    exact h.elim
  | succ n ih =>
    intro x2 u h
    have h : xw8_isWord_L28_S Post K x0 x1 (xw8_isWord_L28 Post K x0 x1 n) x2 u := h
    unfold xw8_isWord_L28_S at h
    refine jj_iload_n hX dX8_isWord_28 2 rfl 29 rfl ?_
    refine jj_aload_n hX dX8_isWord_29 1 rfl 30 rfl ?_
    obtain ⟨hi30, h⟩ := h
    refine kjk_length hX hY.2.2.1 XP.keeps hi30 q692 (Nat.le_of_ble_eq_true rfl) (Nat.le_of_ble_eq_true rfl) (Nat.zero_le _) (Nat.zero_le _) (Nat.le_of_ble_eq_true rfl) dX8_isWord_30 33 rfl ?_
    refine jj_icmp_ge hX dX8_isWord_33 66 36 (by decide) rfl (fun c33 => ?_) (fun c33 => ?_)
    · have h := h.1 c33
      refine jj_iconst hX dX8_isWord_66 ci_1 67 rfl ?_
      exact jj_retz (post := (fun (r : Int32) (w : XS) => Post r w)) (u := u) hX dX8_isWord_67 (Nat.le_refl 0) (Nat.le_refl 0) jx_hB jj_z1 h
    · have h := h.2 c33
      refine jj_aload_n hX dX8_isWord_36 0 rfl 37 rfl ?_
      obtain ⟨k37, h⟩ := h
      refine xg8_7 hX hY k37 dX8_isWord_37 q665 40 rfl ?_
      obtain ⟨b40, g40, h⟩ := h
      refine jj_st (st2 := [.ref b40]) (by rw [va_rf_some g40]) ?_
      obtain ⟨k40, h⟩ := h
      refine xgn0_2 hX hY k40 dX8_isWord_40 nq412 43 rfl ?_
      refine jj_aload_n hX dX8_isWord_43 0 rfl 44 rfl ?_
      refine xg8_1 hX hY k37 dX8_isWord_44 q659 47 rfl ?_
      refine jj_iload_n hX dX8_isWord_47 2 rfl 48 rfl ?_
      refine jj_iadd hX dX8_isWord_48 49 rfl ?_
      obtain ⟨b49, g49, h⟩ := h
      refine jj_st (st2 := [.int ((xi u x0 1) + x2), .ref b49]) (by rw [va_rf_some g49]) ?_
      obtain ⟨n49, k49, h⟩ := h
      obtain ⟨hi49, h⟩ := h
      refine jx_bald hX hY.1 k49 _ rfl hi49 dX8_isWord_49 50 rfl ?_
      refine jj_aload_n hX dX8_isWord_50 1 rfl 51 rfl ?_
      refine jj_iload_n hX dX8_isWord_51 2 rfl 52 rfl ?_
      obtain ⟨hj52, h⟩ := h
      refine kjk_charAt hX hY.2.2.1 XP.keeps hi30 hj52 q702 (Nat.le_of_ble_eq_true rfl) (Nat.le_of_ble_eq_true rfl) (Nat.zero_le _) (Nat.zero_le _) (Nat.le_of_ble_eq_true rfl) dX8_isWord_52 55 rfl ?_
      refine jj_icmp_eq hX dX8_isWord_55 60 58 (by decide) rfl (fun c55 => ?_) (fun c55 => ?_)
      · have h := h.1 c55
        obtain ⟨v60, e60⟩ : ∃ y : Int32, y = x2 + (1 : Int32) := ⟨_, rfl⟩
        have h := h v60 e60
        refine jj_iinc (v := v60) (lv2 := [(0, .ref x0), (1, .ref (aK x1)), (2, .int v60)]) hX dX8_isWord_60 2 rfl (by rw [e60, ci_1]) (Nat.le_of_ble_eq_true rfl) [1, 2, 0] rfl 63 rfl ?_
        refine jj_goto hX dX8_isWord_63 28 (by decide) ?_
        exact ih _ _ h
      · have h := h.2 c55
        refine jj_iconst hX dX8_isWord_58 ci_0 59 rfl ?_
        exact jj_retz (post := (fun (r : Int32) (w : XS) => Post r w)) (u := u) hX dX8_isWord_59 (Nat.le_refl 0) (Nat.le_refl 0) jx_hB jj_z0 h
set_option maxHeartbeats 4000000 in
set_option maxRecDepth 100000 in
theorem mxw8_isWord (l : Launch) (hfl : l.stackTraces = false) (D : va_G) (dA aK aV : Nat → Nat) (x0 : Nat) (x1 : Nat) (K : XK) (u : XS) (Post : Int32 → XS → Prop) (h : xw8_isWord x0 x1 K u Post) (sz : Nat) : Met l yX8_isWord (ws_ yX8_isWord cX8_isWord 3 (Option.some Jvm.ClassFile.FieldType.boolean)) (jx_rm 4 85 0 0) (jx_Pc D dA aK aV K u sz [.ref x0, .ref (aK x1)]) (va_Qi (fun (r : Int32) (w : XS) => Post r w ∧ jj_z r) (jx_B D dA K) (AX K sz)) 0 0 (AX K sz) := by
  refine jx_start hfl [.ref x0, .ref (aK x1)] [(0, .ref x0), (1, .ref (aK x1))] (by decide) (Nat.le_of_ble_eq_true rfl) rfl (fun X hX hY hin => ?_)
  unfold xw8_isWord at h
  refine jj_aload_n hX dX8_isWord_0 0 rfl 1 rfl ?_
  obtain ⟨k1, h⟩ := h
  refine xg8_3 hX hY k1 dX8_isWord_1 q661 4 rfl ?_
  refine jj_iconst hX dX8_isWord_4 ci_1 5 rfl ?_
  refine jj_icmp_ne hX dX8_isWord_5 24 8 (by decide) rfl (fun c5 => ?_) (fun c5 => ?_)
  · have h := h.1 c5
    refine jj_iconst hX dX8_isWord_24 ci_0 25 rfl ?_
    exact jj_retz (post := (fun (r : Int32) (w : XS) => Post r w)) (u := u) hX dX8_isWord_25 (Nat.le_refl 0) (Nat.le_refl 0) jx_hB jj_z0 h
  · have h := h.2 c5
    refine jj_aload_n hX dX8_isWord_8 0 rfl 9 rfl ?_
    refine xg8_2 hX hY k1 dX8_isWord_9 q660 12 rfl ?_
    refine jj_aload_n hX dX8_isWord_12 0 rfl 13 rfl ?_
    refine xg8_1 hX hY k1 dX8_isWord_13 q659 16 rfl ?_
    refine jj_isub hX dX8_isWord_16 17 rfl ?_
    refine jj_aload_n hX dX8_isWord_17 1 rfl 18 rfl ?_
    obtain ⟨hi18, h⟩ := h
    refine kjk_length hX hY.2.2.1 XP.keeps hi18 q692 (Nat.le_of_ble_eq_true rfl) (Nat.le_of_ble_eq_true rfl) (Nat.zero_le _) (Nat.zero_le _) (Nat.le_of_ble_eq_true rfl) dX8_isWord_18 21 rfl ?_
    refine jj_icmp_eq hX dX8_isWord_21 26 24 (by decide) rfl (fun c21 => ?_) (fun c21 => ?_)
    · have h := h.1 c21
      refine jj_iconst hX dX8_isWord_26 ci_0 27 rfl ?_
      refine jj_istore_n (lv2 := [(0, .ref x0), (1, .ref (aK x1)), (2, .int (0 : Int32))]) hX dX8_isWord_27 (Nat.le_of_ble_eq_true rfl) [1, 2, 0] rfl 28 rfl ?_
      obtain ⟨n9, h⟩ := h
      exact txw8_isWord_L28 hX hY n9 _ _ h
    · have h := h.2 c21
      refine jj_iconst hX dX8_isWord_24 ci_0 25 rfl ?_
      exact jj_retz (post := (fun (r : Int32) (w : XS) => Post r w)) (u := u) hX dX8_isWord_25 (Nat.le_refl 0) (Nat.le_refl 0) jx_hB jj_z0 h
theorem hd_xw8_isWord : yX8_isWord.cls ≠ "java/lang/invoke/MethodHandle" ∧ yX8_isWord.cls ≠ "java/lang/invoke/VarHandle" ∧ (parseMethodDescriptor yX8_isWord.desc).map (fun d => d.parameters.length) = some 1 := by decide +kernel
theorem kxw8_isWord {X : JC} {A : Nat → Prop} {Q : State → Prop} {nL k n pc : Nat} {lv : List (Nat × Value)} {st : List Value} {own : String} {cc : ByteArray} {ret : Option FieldType} {F LL mc ms ix : Nat} {D : va_G} {dA aK aV : Nat → Nat} {K : XK} {u : XS} {x0 : Nat} {x1 : Nat} {Post : Int32 → XS → Prop} (hX : JX X own cc nL ret F LL mc ms) (hY : JY X D dA aK aV A) (h1a : K x0 = (1, 8)) (hlk : (Cond.methodLink own ix yX8_isWord) ∈ lw_all) (hF : 4 + 1 ≤ F) (hL : 8 + (3 + 11) + 85 ≤ LL) (hk : k ≤ mc) (hk2 : n ≤ ms) (hw : (st.map fun v => v.category).sum ≤ 8) (d : decode cc pc = .ok (.invokevirtual ix, 3)) (q : Nat) (hq : pc + 3 = q) (h : xw8_isWord x0 x1 K u  Post) (kk : ∀ (r : Int32) (u2 : XS), jj_z r → Post r u2 → JJ X A Q nL (XP D dA A K u2) k n q lv (.int r :: st)) : JJ X A Q nL (XP D dA A K u) k n pc lv (.ref (aK x1) :: .ref x0 :: st) :=
  jx_callVz (na := 1) (As := [.ref (aK x1)]) hX hY jf8 h1a (fun sz => mxw8_isWord (jj_l X) hY.2.2.2.2 D dA aK aV x0 x1 K u  Post h sz) hlk q690 qs10 q136 q691 ⟨rfl, hd_xw8_isWord⟩ rfl rfl hw hF hL hk hk2 d q hq kk
theorem knxw8_isWord {X : JC} {A : Nat → Prop} {Q : State → Prop} {nL k n pc : Nat} {lv : List (Nat × Value)} {st : List Value} {own : String} {cc : ByteArray} {ret : Option FieldType} {F LL mc ms ix : Nat} {D : va_G} {dA aK aV : Nat → Nat} {K : XK} {u : XS} {x0 : Nat} {x1 : Nat} {host : String} {Post : Int32 → XS → Prop} (hX : JX X own cc nL ret F LL mc ms) (hY : JY X D dA aK aV A) (h1a : K x0 = (1, 8)) (hlk : (Cond.methodLinkNest own ix yX8_isWord host) ∈ jx_nest) (hF : 4 + 1 ≤ F) (hL : 8 + (3 + 11) + 85 ≤ LL) (hk : k ≤ mc) (hk2 : n ≤ ms) (hw : (st.map fun v => v.category).sum ≤ 8) (d : decode cc pc = .ok (.invokevirtual ix, 3)) (q : Nat) (hq : pc + 3 = q) (h : xw8_isWord x0 x1 K u  Post) (kk : ∀ (r : Int32) (u2 : XS), jj_z r → Post r u2 → JJ X A Q nL (XP D dA A K u2) k n q lv (.int r :: st)) : JJ X A Q nL (XP D dA A K u) k n pc lv (.ref (aK x1) :: .ref x0 :: st) :=
  jx_callNz (na := 1) (As := [.ref (aK x1)]) hX hY jf8 h1a (fun sz => mxw8_isWord (jj_l X) hY.2.2.2.2 D dA aK aV x0 x1 K u  Post h sz) hlk q690 qs10 q136 q691 hd_xw8_isWord rfl rfl hw hF hL hk hk2 d q hq kk
def xw8_cond_B93 (Post : Nat → XK → XS → Prop) (mc ms : Nat) (x0 : Nat) (s0 : Nat) (K : XK) (u : XS) (c s : Nat) : Prop :=
  xRule K s0 ∧
  xabs_told s0 K u (fun r95 u95 =>
    (r95 ≤ 0 →
      Post s0 K u95) ∧
    (¬ r95 ≤ 0 →
      K x0 = (1, 8) ∧
      xw8_next x0 K u95 (fun u102 =>
        Post s0 K u102)))
/-- RaisedPress$Reader.cond([B[I)LRaisedPress$Rule; -/
def xw8_cond (x0 : Nat) (x1 : Nat) (x2 : Nat) (K : XK) (u : XS) (mc ms : Nat) (Post : Nat → XK → XS → Prop) : Prop :=
  K x0 = (1, 8) ∧
  xw8_isWord x0 3 K u (fun r3 u3 =>
    (r3 = 0 →
      xw8_isWord x0 4 K u3 (fun r24 u24 =>
        (r24 = 0 →
          xw8_isWord x0 5 K u24 (fun r45 u45 =>
            (r45 = 0 →
              xw8_isWord x0 6 K u45 (fun r66 u66 =>
                (r66 = 0 →
                  1 ≤ mc ∧ 2 ≤ ms ∧ ∀ (b84 : Nat) (K84 : XK) (u84 : XS), (K b84).1 = 0 → K84 = xup K b84 (1, 14) → u84 = xz u66 b84 →
                  xw14_init b84 x1 x2 K84 u84 (fun u90 =>
                    xw8_cond_B93 Post mc ms x0 b84 K84 u90 1 2)) ∧
                (¬ r66 = 0 →
                  1 ≤ mc ∧ 2 ≤ ms ∧ ∀ (b72 : Nat) (K72 : XK) (u72 : XS), (K b72).1 = 0 → K72 = xup K b72 (1, 13) → u72 = xz u66 b72 →
                  xw13_init b72 x1 x2 K72 u72 (fun u78 =>
                    xw8_cond_B93 Post mc ms x0 b72 K72 u78 1 2)))) ∧
            (¬ r45 = 0 →
              1 ≤ mc ∧ 2 ≤ ms ∧ ∀ (b51 : Nat) (K51 : XK) (u51 : XS), (K b51).1 = 0 → K51 = xup K b51 (1, 12) → u51 = xz u45 b51 →
              xw12_init b51 x1 x2 K51 u51 (fun u57 =>
                xw8_cond_B93 Post mc ms x0 b51 K51 u57 1 2)))) ∧
        (¬ r24 = 0 →
          1 ≤ mc ∧ 2 ≤ ms ∧ ∀ (b30 : Nat) (K30 : XK) (u30 : XS), (K b30).1 = 0 → K30 = xup K b30 (1, 11) → u30 = xz u24 b30 →
          xw11_init b30 x1 x2 K30 u30 (fun u36 =>
            xw8_cond_B93 Post mc ms x0 b30 K30 u36 1 2)))) ∧
    (¬ r3 = 0 →
      1 ≤ mc ∧ 2 ≤ ms ∧ ∀ (b9 : Nat) (K9 : XK) (u9 : XS), (K b9).1 = 0 → K9 = xup K b9 (1, 10) → u9 = xz u3 b9 →
      xw10_init b9 x1 x2 K9 u9 (fun u15 =>
        xw8_cond_B93 Post mc ms x0 b9 K9 u15 1 2)))
set_option maxHeartbeats 4000000 in
set_option maxRecDepth 100000 in
theorem txw8_cond_B93 {X : JC} {D : va_G} {dA aK aV : Nat → Nat} {sz : Nat} {K0 : XK} {mc ms : Nat} {Post : Nat → XK → XS → Prop} {x0 : Nat} {s0 : Nat} {K : XK} {u : XS} {c s : Nat} (hX : JX X yX8_cond.cls cX8_cond 4 (Option.some (Jvm.ClassFile.FieldType.object "RaisedPress$Rule")) 5 107 mc ms) (hY : JY X D dA aK aV (AX K0 sz)) (hl : XLe K0 K) (hc : c ≤ mc) (hs : s ≤ ms) (h : xw8_cond_B93 Post mc ms x0 s0 K u c s) : JJ X (AX K0 sz) (jj_Q X (jx_Qr (fun (r : Nat) (w : XK × XS) => Post r w.1 w.2) (jx_BA D dA K0 sz) (AX K0 sz)) mc ms (AX K0 sz)) 4 (XP D dA (AX K0 sz) K u) c s 93 [(0, .ref x0)] [.ref s0] := by
  unfold xw8_cond_B93 at h
  refine jj_astore_n (lv2 := [(0, .ref x0), (3, .ref s0)]) hX dX8_cond_93 (Nat.le_of_ble_eq_true rfl) [1, 0] rfl 94 rfl ?_
  refine jj_aload_n hX dX8_cond_94 1 rfl 95 rfl ?_
  obtain ⟨k95, h⟩ := h
  refine kxabs_told hX hY k95 q822 (Nat.le_of_ble_eq_true rfl) (Nat.le_of_ble_eq_true rfl) hc hs (Nat.le_of_ble_eq_true rfl) dX8_cond_95 98 rfl h (fun r95 u95 h => ?_)
  refine jj_if_le hX dX8_cond_98 105 101 (by decide) rfl (fun c98 => ?_) (fun c98 => ?_)
  · have h := h.1 c98
    refine jj_aload_n hX dX8_cond_105 1 rfl 106 rfl ?_
    exact jj_retr (post := (fun (r : Nat) (w : XK × XS) => Post r w.1 w.2)) (u := (K, u95)) hX (by first | exact Or.inl ⟨_, rfl⟩ | exact Or.inr ⟨_, rfl⟩) dX8_cond_106 hc hs (jx_hBA hl) h
  · have h := h.2 c98
    refine jj_aload_n hX dX8_cond_101 0 rfl 102 rfl ?_
    obtain ⟨k102, h⟩ := h
    refine kxw8_next hX hY k102 q637 (Nat.le_of_ble_eq_true rfl) (Nat.le_of_ble_eq_true rfl) hc hs (Nat.le_of_ble_eq_true rfl) dX8_cond_102 105 rfl h (fun u102 h => ?_)
    refine jj_aload_n hX dX8_cond_105 1 rfl 106 rfl ?_
    exact jj_retr (post := (fun (r : Nat) (w : XK × XS) => Post r w.1 w.2)) (u := (K, u102)) hX (by first | exact Or.inl ⟨_, rfl⟩ | exact Or.inr ⟨_, rfl⟩) dX8_cond_106 hc hs (jx_hBA hl) h
set_option maxHeartbeats 4000000 in
set_option maxRecDepth 100000 in
theorem mxw8_cond (l : Launch) (hfl : l.stackTraces = false) (D : va_G) (dA aK aV : Nat → Nat) (x0 : Nat) (x1 : Nat) (x2 : Nat) (K : XK) (u : XS) (mc ms : Nat) (Post : Nat → XK → XS → Prop) (h : xw8_cond x0 x1 x2 K u mc ms Post) (sz : Nat) : Met l yX8_cond (ws_ yX8_cond cX8_cond 4 (Option.some (Jvm.ClassFile.FieldType.object "RaisedPress$Rule"))) (jx_rm 5 107 mc ms) (jx_Pc D dA aK aV K u sz [.ref x0, .ref x1, .ref x2]) (jx_Qr (fun (r : Nat) (w : XK × XS) => Post r w.1 w.2) (jx_BA D dA K sz) (AX K sz)) mc ms (AX K sz) := by
  refine jx_start hfl [.ref x0, .ref x1, .ref x2] [(0, .ref x0), (1, .ref x1), (2, .ref x2)] (by decide) (Nat.le_of_ble_eq_true rfl) rfl (fun X hX hY hin => ?_)
  unfold xw8_cond at h
  refine jj_aload_n hX dX8_cond_0 0 rfl 1 rfl ?_
  refine jk_ldc (i := 3) hX hY.2.2.1 (by decide) rfl dX8_cond_1 3 rfl ?_
  obtain ⟨k3, h⟩ := h
  refine kxw8_isWord hX hY k3 q688 (Nat.le_of_ble_eq_true rfl) (Nat.le_of_ble_eq_true rfl) (Nat.zero_le _) (Nat.zero_le _) (Nat.le_of_ble_eq_true rfl) dX8_cond_3 6 rfl h (fun r3 u3 hb3 h => ?_)
  refine jj_if_eq hX dX8_cond_6 21 9 (by decide) rfl (fun c6 => ?_) (fun c6 => ?_)
  · have h := h.1 c6
    refine jj_aload_n hX dX8_cond_21 0 rfl 22 rfl ?_
    refine jk_ldc (i := 4) hX hY.2.2.1 (by decide) rfl dX8_cond_22 24 rfl ?_
    refine kxw8_isWord hX hY k3 q688 (Nat.le_of_ble_eq_true rfl) (Nat.le_of_ble_eq_true rfl) (Nat.zero_le _) (Nat.zero_le _) (Nat.le_of_ble_eq_true rfl) dX8_cond_24 27 rfl h (fun r24 u24 hb24 h => ?_)
    refine jj_if_eq hX dX8_cond_27 42 30 (by decide) rfl (fun c27 => ?_) (fun c27 => ?_)
    · have h := h.1 c27
      refine jj_aload_n hX dX8_cond_42 0 rfl 43 rfl ?_
      refine jk_ldc (i := 5) hX hY.2.2.1 (by decide) rfl dX8_cond_43 45 rfl ?_
      refine kxw8_isWord hX hY k3 q688 (Nat.le_of_ble_eq_true rfl) (Nat.le_of_ble_eq_true rfl) (Nat.zero_le _) (Nat.zero_le _) (Nat.le_of_ble_eq_true rfl) dX8_cond_45 48 rfl h (fun r45 u45 hb45 h => ?_)
      refine jj_if_eq hX dX8_cond_48 63 51 (by decide) rfl (fun c48 => ?_) (fun c48 => ?_)
      · have h := h.1 c48
        refine jj_aload_n hX dX8_cond_63 0 rfl 64 rfl ?_
        refine jk_ldc (i := 6) hX hY.2.2.1 (by decide) rfl dX8_cond_64 66 rfl ?_
        refine kxw8_isWord hX hY k3 q688 (Nat.le_of_ble_eq_true rfl) (Nat.le_of_ble_eq_true rfl) (Nat.zero_le _) (Nat.zero_le _) (Nat.le_of_ble_eq_true rfl) dX8_cond_66 69 rfl h (fun r66 u66 hb66 h => ?_)
        refine jj_if_eq hX dX8_cond_69 84 72 (by decide) rfl (fun c69 => ?_) (fun c69 => ?_)
        · have h := h.1 c69
          obtain ⟨hc84, hs84, h⟩ := h
          refine jx_new hX hY jf14 jd14 q813 q814 q145 hc84 hs84 dX8_cond_84 87 rfl (fun b84 K84 u84 hb84 eK84 e84 => ?_)
          have h := h b84 K84 u84 hb84 eK84 e84
          have hleb84 : XLe K K84 := by rw [eK84]; exact XLe.up hb84
          have k84 := hleb84.at k3 (by simp)
          have hl84 := XLe.rf.tr hleb84
          have k84_1 : K84 b84 = (1, 14) := by rw [eK84]; exact xup_at
          refine jj_cs (k2 := 1) (n2 := 2) rfl rfl ?_
          refine jj_dup hX dX8_cond_87 rfl 88 rfl ?_
          refine jj_aload_n hX dX8_cond_88 1 rfl 89 rfl ?_
          refine jj_aload_n hX dX8_cond_89 2 rfl 90 rfl ?_
          refine kxw14_init hX hY q815 (Nat.le_of_ble_eq_true rfl) (Nat.le_of_ble_eq_true rfl) hc84 hs84 (Nat.le_of_ble_eq_true rfl) dX8_cond_90 93 rfl h (fun u90 h => ?_)
          refine jj_sub (lv2 := [(0, .ref x0)]) [0] rfl ?_
          exact txw8_cond_B93 hX hY hl84 hc84 hs84 h
        · have h := h.2 c69
          obtain ⟨hc72, hs72, h⟩ := h
          refine jx_new hX hY jf13 jd13 q804 q805 q144 hc72 hs72 dX8_cond_72 75 rfl (fun b72 K72 u72 hb72 eK72 e72 => ?_)
          have h := h b72 K72 u72 hb72 eK72 e72
          have hleb72 : XLe K K72 := by rw [eK72]; exact XLe.up hb72
          have k72 := hleb72.at k3 (by simp)
          have hl72 := XLe.rf.tr hleb72
          have k72_1 : K72 b72 = (1, 13) := by rw [eK72]; exact xup_at
          refine jj_cs (k2 := 1) (n2 := 2) rfl rfl ?_
          refine jj_dup hX dX8_cond_75 rfl 76 rfl ?_
          refine jj_aload_n hX dX8_cond_76 1 rfl 77 rfl ?_
          refine jj_aload_n hX dX8_cond_77 2 rfl 78 rfl ?_
          refine kxw13_init hX hY q806 (Nat.le_of_ble_eq_true rfl) (Nat.le_of_ble_eq_true rfl) hc72 hs72 (Nat.le_of_ble_eq_true rfl) dX8_cond_78 81 rfl h (fun u78 h => ?_)
          refine jj_goto hX dX8_cond_81 93 (by decide) ?_
          refine jj_sub (lv2 := [(0, .ref x0)]) [0] rfl ?_
          exact txw8_cond_B93 hX hY hl72 hc72 hs72 h
      · have h := h.2 c48
        obtain ⟨hc51, hs51, h⟩ := h
        refine jx_new hX hY jf12 jd12 q794 q795 q143 hc51 hs51 dX8_cond_51 54 rfl (fun b51 K51 u51 hb51 eK51 e51 => ?_)
        have h := h b51 K51 u51 hb51 eK51 e51
        have hleb51 : XLe K K51 := by rw [eK51]; exact XLe.up hb51
        have k51 := hleb51.at k3 (by simp)
        have hl51 := XLe.rf.tr hleb51
        have k51_1 : K51 b51 = (1, 12) := by rw [eK51]; exact xup_at
        refine jj_cs (k2 := 1) (n2 := 2) rfl rfl ?_
        refine jj_dup hX dX8_cond_54 rfl 55 rfl ?_
        refine jj_aload_n hX dX8_cond_55 1 rfl 56 rfl ?_
        refine jj_aload_n hX dX8_cond_56 2 rfl 57 rfl ?_
        refine kxw12_init hX hY q796 (Nat.le_of_ble_eq_true rfl) (Nat.le_of_ble_eq_true rfl) hc51 hs51 (Nat.le_of_ble_eq_true rfl) dX8_cond_57 60 rfl h (fun u57 h => ?_)
        refine jj_goto hX dX8_cond_60 93 (by decide) ?_
        refine jj_sub (lv2 := [(0, .ref x0)]) [0] rfl ?_
        exact txw8_cond_B93 hX hY hl51 hc51 hs51 h
    · have h := h.2 c27
      obtain ⟨hc30, hs30, h⟩ := h
      refine jx_new hX hY jf11 jd11 q784 q785 q142 hc30 hs30 dX8_cond_30 33 rfl (fun b30 K30 u30 hb30 eK30 e30 => ?_)
      have h := h b30 K30 u30 hb30 eK30 e30
      have hleb30 : XLe K K30 := by rw [eK30]; exact XLe.up hb30
      have k30 := hleb30.at k3 (by simp)
      have hl30 := XLe.rf.tr hleb30
      have k30_1 : K30 b30 = (1, 11) := by rw [eK30]; exact xup_at
      refine jj_cs (k2 := 1) (n2 := 2) rfl rfl ?_
      refine jj_dup hX dX8_cond_33 rfl 34 rfl ?_
      refine jj_aload_n hX dX8_cond_34 1 rfl 35 rfl ?_
      refine jj_aload_n hX dX8_cond_35 2 rfl 36 rfl ?_
      refine kxw11_init hX hY q786 (Nat.le_of_ble_eq_true rfl) (Nat.le_of_ble_eq_true rfl) hc30 hs30 (Nat.le_of_ble_eq_true rfl) dX8_cond_36 39 rfl h (fun u36 h => ?_)
      refine jj_goto hX dX8_cond_39 93 (by decide) ?_
      refine jj_sub (lv2 := [(0, .ref x0)]) [0] rfl ?_
      exact txw8_cond_B93 hX hY hl30 hc30 hs30 h
  · have h := h.2 c6
    obtain ⟨hc9, hs9, h⟩ := h
    refine jx_new hX hY jf10 jd10 q763 q764 q141 hc9 hs9 dX8_cond_9 12 rfl (fun b9 K9 u9 hb9 eK9 e9 => ?_)
    have h := h b9 K9 u9 hb9 eK9 e9
    have hleb9 : XLe K K9 := by rw [eK9]; exact XLe.up hb9
    have k9 := hleb9.at k3 (by simp)
    have hl9 := XLe.rf.tr hleb9
    have k9_1 : K9 b9 = (1, 10) := by rw [eK9]; exact xup_at
    refine jj_cs (k2 := 1) (n2 := 2) rfl rfl ?_
    refine jj_dup hX dX8_cond_12 rfl 13 rfl ?_
    refine jj_aload_n hX dX8_cond_13 1 rfl 14 rfl ?_
    refine jj_aload_n hX dX8_cond_14 2 rfl 15 rfl ?_
    refine kxw10_init hX hY q765 (Nat.le_of_ble_eq_true rfl) (Nat.le_of_ble_eq_true rfl) hc9 hs9 (Nat.le_of_ble_eq_true rfl) dX8_cond_15 18 rfl h (fun u15 h => ?_)
    refine jj_goto hX dX8_cond_18 93 (by decide) ?_
    refine jj_sub (lv2 := [(0, .ref x0)]) [0] rfl ?_
    exact txw8_cond_B93 hX hY hl9 hc9 hs9 h
theorem hd_xw8_cond : yX8_cond.cls ≠ "java/lang/invoke/MethodHandle" ∧ yX8_cond.cls ≠ "java/lang/invoke/VarHandle" ∧ (parseMethodDescriptor yX8_cond.desc).map (fun d => d.parameters.length) = some 2 := by decide +kernel
theorem kxw8_cond {X : JC} {A : Nat → Prop} {Q : State → Prop} {nL k n pc : Nat} {lv : List (Nat × Value)} {st : List Value} {own : String} {cc : ByteArray} {ret : Option FieldType} {F LL mc ms ix mc2 ms2 : Nat} {D : va_G} {dA aK aV : Nat → Nat} {K : XK} {u : XS} {x0 : Nat} {x1 : Nat} {x2 : Nat} {Post : Nat → XK → XS → Prop} (hX : JX X own cc nL ret F LL mc ms) (hY : JY X D dA aK aV A) (h1a : K x0 = (1, 8)) (hlk : (Cond.methodLink own ix yX8_cond) ∈ lw_all) (hF : 5 + 1 ≤ F) (hL : 8 + (4 + 11) + 107 ≤ LL) (hk : k + mc2 ≤ mc) (hk2 : n + ms2 ≤ ms) (hw : (st.map fun v => v.category).sum ≤ 8) (d : decode cc pc = .ok (.invokevirtual ix, 3)) (q : Nat) (hq : pc + 3 = q) (h : xw8_cond x0 x1 x2 K u mc2 ms2 Post) (kk : ∀ (r : Nat) (K2 : XK) (u2 : XS), XLe K K2 → Post r K2 u2 → JJ X A Q nL (XP D dA A K2 u2) (k + mc2) (n + ms2) q lv (.ref r :: st)) : JJ X A Q nL (XP D dA A K u) k n pc lv (.ref x2 :: .ref x1 :: .ref x0 :: st) :=
  jx_callVrA (na := 2) (As := [.ref x1, .ref x2]) hX hY jf8 h1a (fun sz => mxw8_cond (jj_l X) hY.2.2.2.2 D dA aK aV x0 x1 x2 K u mc2 ms2 Post h sz) hlk q760 qs14 q136 q761 ⟨rfl, hd_xw8_cond⟩ rfl rfl hw hF hL hk hk2 d q hq kk
theorem knxw8_cond {X : JC} {A : Nat → Prop} {Q : State → Prop} {nL k n pc : Nat} {lv : List (Nat × Value)} {st : List Value} {own : String} {cc : ByteArray} {ret : Option FieldType} {F LL mc ms ix mc2 ms2 : Nat} {D : va_G} {dA aK aV : Nat → Nat} {K : XK} {u : XS} {x0 : Nat} {x1 : Nat} {x2 : Nat} {host : String} {Post : Nat → XK → XS → Prop} (hX : JX X own cc nL ret F LL mc ms) (hY : JY X D dA aK aV A) (h1a : K x0 = (1, 8)) (hlk : (Cond.methodLinkNest own ix yX8_cond host) ∈ jx_nest) (hF : 5 + 1 ≤ F) (hL : 8 + (4 + 11) + 107 ≤ LL) (hk : k + mc2 ≤ mc) (hk2 : n + ms2 ≤ ms) (hw : (st.map fun v => v.category).sum ≤ 8) (d : decode cc pc = .ok (.invokevirtual ix, 3)) (q : Nat) (hq : pc + 3 = q) (h : xw8_cond x0 x1 x2 K u mc2 ms2 Post) (kk : ∀ (r : Nat) (K2 : XK) (u2 : XS), XLe K K2 → Post r K2 u2 → JJ X A Q nL (XP D dA A K2 u2) (k + mc2) (n + ms2) q lv (.ref r :: st)) : JJ X A Q nL (XP D dA A K u) k n pc lv (.ref x2 :: .ref x1 :: .ref x0 :: st) :=
  jx_callNrA (na := 2) (As := [.ref x1, .ref x2]) hX hY jf8 h1a (fun sz => mxw8_cond (jj_l X) hY.2.2.2.2 D dA aK aV x0 x1 x2 K u mc2 ms2 Post h sz) hlk q760 qs14 q136 q761 hd_xw8_cond rfl rfl hw hF hL hk hk2 d q hq kk
def xw8_rule_L196_S (Post : XK → XS → Prop) (PX : Nat → XK → XS → Prop) (mc ms : Nat) (x0 : Nat) (x1 : Nat) (x6 : Nat) (R : Int32 → XK → XS → Nat → Nat → Prop) (x7 : Int32) (K : XK) (u : XS) (c s : Nat) : Prop :=
  K x1 = (1, 5) ∧
  ((xi u x1 1) ≤ x7 →
    ∃ b260, (xr u x1 0) = some b260 ∧
    ∃ n260, K b260 = (7, n260) ∧
    vp_in (xi u x1 1) n260 ∧
    xRule K x6 ∧
    ∀ u260 : XS, u260 = xsr u b260 (xi u x1 1).toNatClampNeg (some x6) →
    ∀ u268 : XS, u268 = xsi u260 x1 1 ((xi u260 x1 1) + (1 : Int32)) →
    Post K u268) ∧
  (¬ (xi u x1 1) ≤ x7 →
    ∃ b211, (xr u x1 0) = some b211 ∧
    ∃ n211, K b211 = (7, n211) ∧
    vp_in x7 n211 ∧
    ∃ b214, (xr u b211 x7.toNatClampNeg) = some b214 ∧
    xRule K b214 ∧
    xw9_isLike b214 x6 K u (fun r214 u214 =>
      (r214 = 0 →
        ∀ v244 : Int32, v244 = x7 + (1 : Int32) →
        R v244 K u214 c s) ∧
      (¬ r214 = 0 →
        K x0 = (1, 8) ∧
        (¬ (xi u214 x0 3) = (3 : Int32) →
          ∀ v244 : Int32, v244 = x7 + (1 : Int32) →
          R v244 K u214 c s) ∧
        ((xi u214 x0 3) = (3 : Int32) →
          ∃ b232, (xr u214 x0 7) = some b232 ∧
          K b232 = (1, 0) ∧
          ∃ b240, (xr u214 b232 1) = some b240 ∧
          K b240 = (1, 2) ∧
          xw2_at b240 (3 : Int32) (xi u214 x0 1) K u214 (fun r240 u240 =>
            K r240 = (1, 2) ∧
            PX r240 K u240)))))
def xw8_rule_L196 (Post : XK → XS → Prop) (PX : Nat → XK → XS → Prop) (mc ms : Nat) (x0 : Nat) (x1 : Nat) (x6 : Nat) : Nat → Int32 → XK → XS → Nat → Nat → Prop
  | 0 => fun _ _ _ _ _ => False
  | n + 1 => fun x7 K u c s => xw8_rule_L196_S Post PX mc ms x0 x1 x6 (xw8_rule_L196 Post PX mc ms x0 x1 x6 n) x7 K u c s
def xw8_rule_L116_S (Post : XK → XS → Prop) (PX : Nat → XK → XS → Prop) (mc ms : Nat) (x0 : Nat) (x1 : Nat) (x2 : Nat) (x3 : Nat) (R : Int32 → XK → XS → Nat → Nat → Prop) (x4 : Int32) (K : XK) (u : XS) (c s : Nat) : Prop :=
  K x0 = (1, 8) ∧
  ∀ v120 : Int32, v120 = (xi u x0 1) →
  ∃ m126 w126, (c + m126) ≤ mc ∧ (s + w126) ≤ ms ∧ xw8_number x0 (1 : Int32) (63 : Int32) K u m126 w126 (fun r126 K126 u126 =>
    (¬ x4 = (3 : Int32) →
      ∃ n156, K126 x3 = (2, n156) ∧
      vp_in x4 n156 ∧
      ∀ u156 : XS, u156 = xsi u126 x3 x4.toNatClampNeg r126 →
      ∀ v157 : Int32, v157 = x4 + (1 : Int32) →
      ((xi u156 x0 3) = (2 : Int32) →
        R v157 K126 u156 (c + m126) (s + w126)) ∧
      (¬ (xi u156 x0 3) = (2 : Int32) →
        ¬ v157 < 0 ∧ v157.toNatClampNeg * 8 ≤ 536870912 ∧ ((c + m126) + 1) ≤ mc ∧ ((s + w126) + v157.toNatClampNeg) ≤ ms ∧ ∀ (b170 : Nat) (K170 : XK) (u170 : XS), (K126 b170).1 = 0 → K170 = xup K126 b170 (2, v157.toNatClampNeg) → u170 = xz u156 b170 →
        ¬ (0 : Int32) < 0 ∧ ¬ (0 : Int32) < 0 ∧ ¬ v157 < 0 ∧ (0 : Int32).toNatClampNeg + v157.toNatClampNeg ≤ n156 ∧ (0 : Int32).toNatClampNeg + v157.toNatClampNeg ≤ v157.toNatClampNeg ∧ ∀ u181 : XS, u181 = xcp u170 x3 (0 : Int32).toNatClampNeg b170 (0 : Int32).toNatClampNeg v157.toNatClampNeg →
        ∃ m188 w188, (((c + m126) + 1) + m188) ≤ mc ∧ (((s + w126) + v157.toNatClampNeg) + w188) ≤ ms ∧ xw8_cond x0 x2 b170 K170 u181 m188 w188 (fun r188 K188 u188 =>
          ∃ n, xw8_rule_L196 Post PX mc ms x0 x1 r188 n (0 : Int32) K188 u188 (((c + m126) + 1) + m188) (((s + w126) + v157.toNatClampNeg) + w188)))) ∧
    (x4 = (3 : Int32) →
      ∃ b141, (xr u126 x0 7) = some b141 ∧
      K126 b141 = (1, 0) ∧
      ∃ b147, (xr u126 b141 1) = some b147 ∧
      K126 b147 = (1, 2) ∧
      xw2_at b147 (5 : Int32) v120 K126 u126 (fun r147 u147 =>
        K126 r147 = (1, 2) ∧
        PX r147 K126 u147))) (fun q126 K126 u126 =>
    PX q126 K126 u126)
def xw8_rule_L116 (Post : XK → XS → Prop) (PX : Nat → XK → XS → Prop) (mc ms : Nat) (x0 : Nat) (x1 : Nat) (x2 : Nat) (x3 : Nat) : Nat → Int32 → XK → XS → Nat → Nat → Prop
  | 0 => fun _ _ _ _ _ => False
  | n + 1 => fun x4 K u c s => xw8_rule_L116_S Post PX mc ms x0 x1 x2 x3 (xw8_rule_L116 Post PX mc ms x0 x1 x2 x3 n) x4 K u c s
/-- RaisedPress$Reader.rule(LRaisedPress$Table;)V -/
def xw8_rule (x0 : Nat) (x1 : Nat) (K : XK) (u : XS) (mc ms : Nat) (Post : XK → XS → Prop) (PX : Nat → XK → XS → Prop) : Prop :=
  K x1 = (1, 5) ∧
  (¬ (xi u x1 1) = (24 : Int32) →
    K x0 = (1, 8) ∧
    xw8_next x0 K u (fun u27 =>
      (¬ (xi u27 x0 3) = (1 : Int32) →
        xw8_wrong x0 K u27 (fun r53 u53 =>
          K r53 = (1, 2) ∧
          PX r53 K u53)) ∧
      ((xi u27 x0 3) = (1 : Int32) →
        (((xi u27 x0 2) - (xi u27 x0 1)) ≤ (6 : Int32) →
          ¬ ((xi u27 x0 2) - (xi u27 x0 1)) < 0 ∧ ((xi u27 x0 2) - (xi u27 x0 1)).toNatClampNeg * 8 ≤ 536870912 ∧ 1 ≤ mc ∧ (0 + ((xi u27 x0 2) - (xi u27 x0 1)).toNatClampNeg) ≤ ms ∧ ∀ (b66 : Nat) (K66 : XK) (u66 : XS), (K b66).1 = 0 → K66 = xup K b66 (3, ((xi u27 x0 2) - (xi u27 x0 1)).toNatClampNeg) → u66 = xz u27 b66 →
          ∃ b73, (xr u66 x0 7) = some b73 ∧
          K66 b73 = (1, 0) ∧
          ∃ b84, (xr u66 b73 2) = some b84 ∧
          ∃ n84, K66 b84 = (3, n84) ∧
          ¬ (xi u66 x0 1) < 0 ∧ ¬ (0 : Int32) < 0 ∧ ¬ (nI ((xi u27 x0 2) - (xi u27 x0 1)).toNatClampNeg) < 0 ∧ (xi u66 x0 1).toNatClampNeg + (nI ((xi u27 x0 2) - (xi u27 x0 1)).toNatClampNeg).toNatClampNeg ≤ n84 ∧ (0 : Int32).toNatClampNeg + (nI ((xi u27 x0 2) - (xi u27 x0 1)).toNatClampNeg).toNatClampNeg ≤ ((xi u27 x0 2) - (xi u27 x0 1)).toNatClampNeg ∧ ∀ u84 : XS, u84 = xcp u66 b84 (xi u66 x0 1).toNatClampNeg b66 (0 : Int32).toNatClampNeg (nI ((xi u27 x0 2) - (xi u27 x0 1)).toNatClampNeg).toNatClampNeg →
          xw8_next x0 K66 u84 (fun u88 =>
            xw8_isWord x0 2 K66 u88 (fun r94 u94 =>
              (¬ r94 = 0 →
                xw8_next x0 K66 u94 (fun u106 =>
                  2 ≤ mc ∧ ((0 + ((xi u27 x0 2) - (xi u27 x0 1)).toNatClampNeg) + 3) ≤ ms ∧ ∀ (b110 : Nat) (K110 : XK) (u110 : XS), (K66 b110).1 = 0 → K110 = xup K66 b110 (2, 3) → u110 = xz u106 b110 →
                  ∃ n, xw8_rule_L116 Post PX mc ms x0 x1 b66 b110 n (0 : Int32) K110 u110 2 ((0 + ((xi u27 x0 2) - (xi u27 x0 1)).toNatClampNeg) + 3))) ∧
              (r94 = 0 →
                xw8_wrong x0 K66 u94 (fun r101 u101 =>
                  K66 r101 = (1, 2) ∧
                  PX r101 K66 u101))))) ∧
        (¬ ((xi u27 x0 2) - (xi u27 x0 1)) ≤ (6 : Int32) →
          xw8_wrong x0 K u27 (fun r53 u53 =>
            K r53 = (1, 2) ∧
            PX r53 K u53))))) ∧
  ((xi u x1 1) = (24 : Int32) →
    K x0 = (1, 8) ∧
    ∃ b13, (xr u x0 7) = some b13 ∧
    K b13 = (1, 0) ∧
    ∃ b22, (xr u b13 1) = some b22 ∧
    K b22 = (1, 2) ∧
    xw2_at b22 (6 : Int32) (xi u x0 1) K u (fun r22 u22 =>
      K r22 = (1, 2) ∧
      PX r22 K u22))
set_option maxHeartbeats 4000000 in
set_option maxRecDepth 100000 in
theorem txw8_rule_L196 {X : JC} {D : va_G} {dA aK aV : Nat → Nat} {sz : Nat} {K0 : XK} {mc ms : Nat} {Post : XK → XS → Prop} {PX : Nat → XK → XS → Prop} {x0 : Nat} {x1 : Nat} {x6 : Nat} (hX : JX X yX8_rule.cls cX8_rule 8 (Option.none : Option Jvm.ClassFile.FieldType) 6 130 mc ms) (hY : JY X D dA aK aV (AX K0 sz)) (hE : JE X []) : ∀ (n : Nat) (x7 : Int32) (K : XK) (u : XS) (c s : Nat) (hl : XLe K0 K) (hc : c ≤ mc) (hs : s ≤ ms), xw8_rule_L196 Post PX mc ms x0 x1 x6 n x7 K u c s → JJ X (AX K0 sz) (jx_QX X (va_Qv (fun w : XK × XS => Post w.1 w.2) (jx_BA D dA K0 sz) (AX K0 sz)) (jx_XC 2 PX D dA K0 sz (AX K0 sz)) mc ms (AX K0 sz)) 8 (XP D dA (AX K0 sz) K u) c s 196 [(0, .ref x0), (1, .ref x1), (6, .ref x6), (7, .int x7)] [] := by
  intro n
  induction n with
  | zero =>
    intro x7 K u c s hl hc hs h
    exact h.elim
  | succ n ih =>
    intro x7 K u c s hl hc hs h
    have h : xw8_rule_L196_S Post PX mc ms x0 x1 x6 (xw8_rule_L196 Post PX mc ms x0 x1 x6 n) x7 K u c s := h
    unfold xw8_rule_L196_S at h
    refine jj_iload hX dX8_rule_196 3 rfl 198 rfl ?_
    refine jj_aload_n hX dX8_rule_198 1 rfl 199 rfl ?_
    obtain ⟨k199, h⟩ := h
    refine xgn5_1 hX hY k199 dX8_rule_199 nq278 202 rfl ?_
    refine jj_icmp_ge hX dX8_rule_202 250 205 (by decide) rfl (fun c202 => ?_) (fun c202 => ?_)
    · have h := h.1 c202
      refine jj_aload_n hX dX8_rule_250 1 rfl 251 rfl ?_
      refine xgn5_0 hX hY k199 dX8_rule_251 nq275 254 rfl ?_
      refine jj_aload_n hX dX8_rule_254 1 rfl 255 rfl ?_
      refine xgn5_1 hX hY k199 dX8_rule_255 nq278 258 rfl ?_
      refine jj_aload hX dX8_rule_258 2 rfl 260 rfl ?_
      obtain ⟨b260, g260, h⟩ := h
      refine jj_st (st2 := [.ref x6, .int (xi u x1 1), .ref b260]) (by rw [va_rf_some g260]) ?_
      obtain ⟨n260, k260, h⟩ := h
      obtain ⟨hi260, h⟩ := h
      obtain ⟨k260_1, h⟩ := h
      refine jx_aastR hX hY k260 k260_1 _ rfl hi260 dX8_rule_260 261 rfl (fun u260 e260 => ?_)
      have h := h u260 e260
      refine jj_aload_n hX dX8_rule_261 1 rfl 262 rfl ?_
      refine jj_dup hX dX8_rule_262 rfl 263 rfl ?_
      refine xgn5_1 hX hY k199 dX8_rule_263 nq278 266 rfl ?_
      refine jj_iconst hX dX8_rule_266 ci_1 267 rfl ?_
      refine jj_iadd hX dX8_rule_267 268 rfl ?_
      refine xpn5_1 hX hY k199 dX8_rule_268 nq278 271 rfl (fun u268 e268 => ?_)
      have h := h u268 e268
      exact jt_ret (jj_retv (post := (fun w : XK × XS => Post w.1 w.2)) (u := (K, u268)) hX dX8_rule_271 hc hs (jx_hBA hl) h)
    · have h := h.2 c202
      refine jj_aload_n hX dX8_rule_205 1 rfl 206 rfl ?_
      refine xgn5_0 hX hY k199 dX8_rule_206 nq275 209 rfl ?_
      refine jj_iload hX dX8_rule_209 3 rfl 211 rfl ?_
      obtain ⟨b211, g211, h⟩ := h
      refine jj_st (st2 := [.int x7, .ref b211]) (by rw [va_rf_some g211]) ?_
      obtain ⟨n211, k211, h⟩ := h
      obtain ⟨hi211, h⟩ := h
      refine jx_aald5 hX hY.1 k211 _ rfl hi211 dX8_rule_211 212 rfl ?_
      refine jj_aload hX dX8_rule_212 2 rfl 214 rfl ?_
      obtain ⟨b214, g214, h⟩ := h
      refine jj_st (st2 := [.ref x6, .ref b214]) (by rw [va_rf_some g214]) ?_
      obtain ⟨k214, h⟩ := h
      refine kxw9_isLike hX hY k214 q840 (Nat.le_of_ble_eq_true rfl) (Nat.le_of_ble_eq_true rfl) hc hs (Nat.le_of_ble_eq_true rfl) dX8_rule_214 217 rfl h (fun r214 u214 hb214 h => ?_)
      refine jj_if_eq hX dX8_rule_217 244 220 (by decide) rfl (fun c217 => ?_) (fun c217 => ?_)
      · have h := h.1 c217
        obtain ⟨v244, e244⟩ : ∃ y : Int32, y = x7 + (1 : Int32) := ⟨_, rfl⟩
        have h := h v244 e244
        refine jj_iinc (v := v244) (lv2 := [(0, .ref x0), (1, .ref x1), (6, .ref x6), (7, .int v244)]) hX dX8_rule_244 3 rfl (by rw [e244, ci_1]) (Nat.le_of_ble_eq_true rfl) [1, 2, 3, 0] rfl 247 rfl ?_
        refine jj_goto hX dX8_rule_247 196 (by decide) ?_
        exact ih _ _ _ _ _ hl hc hs h
      · have h := h.2 c217
        refine jj_aload_n hX dX8_rule_220 0 rfl 221 rfl ?_
        obtain ⟨k221, h⟩ := h
        refine xg8_3 hX hY k221 dX8_rule_221 q661 224 rfl ?_
        refine jj_iconst hX dX8_rule_224 ci_3 225 rfl ?_
        refine jj_icmp_ne hX dX8_rule_225 244 228 (by decide) rfl (fun c225 => ?_) (fun c225 => ?_)
        · have h := h.1 c225
          obtain ⟨v244, e244⟩ : ∃ y : Int32, y = x7 + (1 : Int32) := ⟨_, rfl⟩
          have h := h v244 e244
          refine jj_iinc (v := v244) (lv2 := [(0, .ref x0), (1, .ref x1), (6, .ref x6), (7, .int v244)]) hX dX8_rule_244 3 rfl (by rw [e244, ci_1]) (Nat.le_of_ble_eq_true rfl) [1, 2, 3, 0] rfl 247 rfl ?_
          refine jj_goto hX dX8_rule_247 196 (by decide) ?_
          exact ih _ _ _ _ _ hl hc hs h
        · have h := h.2 c225
          refine jj_aload_n hX dX8_rule_228 0 rfl 229 rfl ?_
          refine xg8_7 hX hY k221 dX8_rule_229 q665 232 rfl ?_
          obtain ⟨b232, g232, h⟩ := h
          refine jj_st (st2 := [.ref b232]) (by rw [va_rf_some g232]) ?_
          obtain ⟨k232, h⟩ := h
          refine xgn0_1 hX hY k232 dX8_rule_232 nq409 235 rfl ?_
          refine jj_iconst hX dX8_rule_235 ci_3 236 rfl ?_
          refine jj_aload_n hX dX8_rule_236 0 rfl 237 rfl ?_
          refine xg8_1 hX hY k221 dX8_rule_237 q659 240 rfl ?_
          obtain ⟨b240, g240, h⟩ := h
          refine jj_st (st2 := [.int (xi u214 x0 1), .int (3 : Int32), .ref b240]) (by rw [va_rf_some g240]) ?_
          obtain ⟨k240, h⟩ := h
          refine kxw2_at hX hY k240 q744 (Nat.le_of_ble_eq_true rfl) (Nat.le_of_ble_eq_true rfl) hc hs (Nat.le_of_ble_eq_true rfl) dX8_rule_240 243 rfl h (fun r240 u240 h => ?_)
          obtain ⟨k243, h⟩ := h
          refine jj_athrow hX hY jf2 k243 dX8_rule_243 ?_
          exact jt_out (e := 2) hX hE hc hs hl h
set_option maxHeartbeats 4000000 in
set_option maxRecDepth 100000 in
theorem txw8_rule_L116 {X : JC} {D : va_G} {dA aK aV : Nat → Nat} {sz : Nat} {K0 : XK} {mc ms : Nat} {Post : XK → XS → Prop} {PX : Nat → XK → XS → Prop} {x0 : Nat} {x1 : Nat} {x2 : Nat} {x3 : Nat} (hX : JX X yX8_rule.cls cX8_rule 8 (Option.none : Option Jvm.ClassFile.FieldType) 6 130 mc ms) (hY : JY X D dA aK aV (AX K0 sz)) (hE : JE X []) : ∀ (n : Nat) (x4 : Int32) (K : XK) (u : XS) (c s : Nat) (hl : XLe K0 K) (hc : c ≤ mc) (hs : s ≤ ms), xw8_rule_L116 Post PX mc ms x0 x1 x2 x3 n x4 K u c s → JJ X (AX K0 sz) (jx_QX X (va_Qv (fun w : XK × XS => Post w.1 w.2) (jx_BA D dA K0 sz) (AX K0 sz)) (jx_XC 2 PX D dA K0 sz (AX K0 sz)) mc ms (AX K0 sz)) 8 (XP D dA (AX K0 sz) K u) c s 116 [(0, .ref x0), (1, .ref x1), (2, .ref x2), (3, .ref x3), (4, .int x4)] [] := by
  intro n
  induction n with
  | zero =>
    intro x4 K u c s hl hc hs h
    exact h.elim
  | succ n ih =>
    intro x4 K u c s hl hc hs h
    have h : xw8_rule_L116_S Post PX mc ms x0 x1 x2 x3 (xw8_rule_L116 Post PX mc ms x0 x1 x2 x3 n) x4 K u c s := h
    unfold xw8_rule_L116_S at h
    refine jj_aload_n hX dX8_rule_116 0 rfl 117 rfl ?_
    obtain ⟨k117, h⟩ := h
    refine xg8_1 hX hY k117 dX8_rule_117 q659 120 rfl ?_
    refine jj_topi (fun v120 e120 => ?_)
    have h := h v120 e120
    refine jj_istore (lv2 := [(0, .ref x0), (1, .ref x1), (2, .ref x2), (3, .ref x3), (4, .int x4), (5, .int v120)]) hX dX8_rule_120 (Nat.le_of_ble_eq_true rfl) [1, 2, 3, 4, 5, 0] rfl 122 rfl ?_
    refine jj_aload_n hX dX8_rule_122 0 rfl 123 rfl ?_
    refine jj_iconst hX dX8_rule_123 ci_1 124 rfl ?_
    refine jj_bipush hX dX8_rule_124 cb_63 126 rfl ?_
    obtain ⟨m126, w126, hc126, hs126, h⟩ := h
    refine kxw8_number hX hY k117 q754 (Nat.le_of_ble_eq_true rfl) (Nat.le_of_ble_eq_true rfl) hc126 hs126 (Nat.le_of_ble_eq_true rfl) dX8_rule_126 129 rfl h (fun q126 K126 u126 hle126 h => jt_cs (k2 := (c + m126)) (n2 := (s + w126)) (by simp) (by simp) ?_) (fun r126 K126 u126 hle126 h => jj_cs (k2 := (c + m126)) (n2 := (s + w126)) (by simp) (by simp) ?_)
    · have k126 := hle126.at k117 (by simp)
      have hl126 := hl.tr hle126
      exact jt_out (e := 2) hX hE hc126 hs126 hl126 h
    · have k126 := hle126.at k117 (by simp)
      have hl126 := hl.tr hle126
      refine jj_istore (lv2 := [(0, .ref x0), (1, .ref x1), (2, .ref x2), (3, .ref x3), (4, .int x4), (5, .int v120), (6, .int r126)]) hX dX8_rule_129 (Nat.le_of_ble_eq_true rfl) [1, 2, 3, 4, 5, 6, 0] rfl 131 rfl ?_
      refine jj_iload hX dX8_rule_131 4 rfl 133 rfl ?_
      refine jj_iconst hX dX8_rule_133 ci_3 134 rfl ?_
      refine jj_icmp_ne hX dX8_rule_134 151 137 (by decide) rfl (fun c134 => ?_) (fun c134 => ?_)
      · have h := h.1 c134
        refine jj_aload_n hX dX8_rule_151 3 rfl 152 rfl ?_
        refine jj_iload hX dX8_rule_152 4 rfl 154 rfl ?_
        refine jj_iload hX dX8_rule_154 6 rfl 156 rfl ?_
        obtain ⟨n156, k156, h⟩ := h
        obtain ⟨hi156, h⟩ := h
        refine jx_iast hX hY.1 k156 _ rfl hi156 dX8_rule_156 157 rfl (fun u156 e156 => ?_)
        have h := h u156 e156
        obtain ⟨v157, e157⟩ : ∃ y : Int32, y = x4 + (1 : Int32) := ⟨_, rfl⟩
        have h := h v157 e157
        refine jj_iinc (v := v157) (lv2 := [(0, .ref x0), (1, .ref x1), (2, .ref x2), (3, .ref x3), (4, .int v157), (5, .int v120), (6, .int r126)]) hX dX8_rule_157 4 rfl (by rw [e157, ci_1]) (Nat.le_of_ble_eq_true rfl) [1, 2, 3, 4, 0, 5, 6] rfl 160 rfl ?_
        refine jj_aload_n hX dX8_rule_160 0 rfl 161 rfl ?_
        refine xg8_3 hX hY k126 dX8_rule_161 q661 164 rfl ?_
        refine jj_iconst hX dX8_rule_164 ci_2 165 rfl ?_
        refine jj_icmp_eq hX dX8_rule_165 116 168 (by decide) rfl (fun c165 => ?_) (fun c165 => ?_)
        · have h := h.1 c165
          refine jj_sub (lv2 := [(0, .ref x0), (1, .ref x1), (2, .ref x2), (3, .ref x3), (4, .int v157)]) [0, 1, 2, 3, 4] rfl ?_
          exact ih _ _ _ _ _ hl126 hc126 hs126 h
        · have h := h.2 c165
          refine jj_iload hX dX8_rule_168 4 rfl 170 rfl ?_
          obtain ⟨hn170, hm170, h⟩ := h
          obtain ⟨hc170, hs170, h⟩ := h
          refine jx_na0 hX hY hn170 _ rfl hm170 hc170 hs170 dX8_rule_170 172 rfl (fun b170 K170 u170 hb170 eK170 e170 => ?_)
          have h := h b170 K170 u170 hb170 eK170 e170
          have hleb170 : XLe K126 K170 := by rw [eK170]; exact XLe.up hb170
          have k170 := hleb170.at k126 (by simp)
          have k170_1 := hleb170.at k156 (by simp)
          have hl170 := hl126.tr hleb170
          have k170_2 : K170 b170 = (2, v157.toNatClampNeg) := by rw [eK170]; exact xup_at
          refine jj_cs (k2 := ((c + m126) + 1)) (n2 := ((s + w126) + v157.toNatClampNeg)) rfl rfl ?_
          refine jj_astore (lv2 := [(0, .ref x0), (1, .ref x1), (2, .ref x2), (3, .ref x3), (4, .int v157), (5, .ref b170)]) hX dX8_rule_172 (Nat.le_of_ble_eq_true rfl) [1, 2, 3, 4, 5, 0] rfl 174 rfl ?_
          refine jj_aload_n hX dX8_rule_174 3 rfl 175 rfl ?_
          refine jj_iconst hX dX8_rule_175 ci_0 176 rfl ?_
          refine jj_aload hX dX8_rule_176 5 rfl 178 rfl ?_
          refine jj_iconst hX dX8_rule_178 ci_0 179 rfl ?_
          refine jj_iload hX dX8_rule_179 4 rfl 181 rfl ?_
          obtain ⟨g181, g181_1, g181_2, g181_3, g181_4, h⟩ := h
          refine jx_copyi hX hY k170_1 k170_2 (by decide) q752 g181 g181_1 g181_2 g181_3 g181_4 (Nat.le_of_ble_eq_true rfl) (by decide) (Nat.le_of_ble_eq_true rfl) dX8_rule_181 184 rfl (fun u181 e181 => ?_)
          have h := h u181 e181
          refine jj_aload_n hX dX8_rule_184 0 rfl 185 rfl ?_
          refine jj_aload_n hX dX8_rule_185 2 rfl 186 rfl ?_
          refine jj_aload hX dX8_rule_186 5 rfl 188 rfl ?_
          obtain ⟨m188, w188, hc188, hs188, h⟩ := h
          refine kxw8_cond hX hY k170 q758 (Nat.le_of_ble_eq_true rfl) (Nat.le_of_ble_eq_true rfl) hc188 hs188 (Nat.le_of_ble_eq_true rfl) dX8_rule_188 191 rfl h (fun r188 K188 u188 hle188 h => ?_)
          have k188 := hle188.at k170 (by simp)
          have k188_1 := hle188.at k170_1 (by simp)
          have k188_2 := hle188.at k170_2 (by simp)
          have hl188 := hl170.tr hle188
          refine jj_cs (k2 := (((c + m126) + 1) + m188)) (n2 := (((s + w126) + v157.toNatClampNeg) + w188)) (by simp) (by simp) ?_
          refine jj_astore (lv2 := [(0, .ref x0), (1, .ref x1), (6, .ref r188)]) hX dX8_rule_191 (Nat.le_of_ble_eq_true rfl) [1, 2, 0] rfl 193 rfl ?_
          refine jj_iconst hX dX8_rule_193 ci_0 194 rfl ?_
          refine jj_istore (lv2 := [(0, .ref x0), (1, .ref x1), (6, .ref r188), (7, .int (0 : Int32))]) hX dX8_rule_194 (Nat.le_of_ble_eq_true rfl) [1, 2, 3, 0] rfl 196 rfl ?_
          obtain ⟨n9, h⟩ := h
          exact txw8_rule_L196 hX hY hE n9 _ _ _ _ _ hl188 hc188 hs188 h
      · have h := h.2 c134
        refine jj_aload_n hX dX8_rule_137 0 rfl 138 rfl ?_
        refine xg8_7 hX hY k126 dX8_rule_138 q665 141 rfl ?_
        obtain ⟨b141, g141, h⟩ := h
        refine jj_st (st2 := [.ref b141]) (by rw [va_rf_some g141]) ?_
        obtain ⟨k141, h⟩ := h
        refine xgn0_1 hX hY k141 dX8_rule_141 nq409 144 rfl ?_
        refine jj_iconst hX dX8_rule_144 ci_5 145 rfl ?_
        refine jj_iload hX dX8_rule_145 5 rfl 147 rfl ?_
        obtain ⟨b147, g147, h⟩ := h
        refine jj_st (st2 := [.int v120, .int (5 : Int32), .ref b147]) (by rw [va_rf_some g147]) ?_
        obtain ⟨k147, h⟩ := h
        refine kxw2_at hX hY k147 q744 (Nat.le_of_ble_eq_true rfl) (Nat.le_of_ble_eq_true rfl) hc126 hs126 (Nat.le_of_ble_eq_true rfl) dX8_rule_147 150 rfl h (fun r147 u147 h => ?_)
        obtain ⟨k150, h⟩ := h
        refine jj_athrow hX hY jf2 k150 dX8_rule_150 ?_
        exact jt_out (e := 2) hX hE hc126 hs126 hl126 h
set_option maxHeartbeats 4000000 in
set_option maxRecDepth 100000 in
theorem mxw8_rule (l : Launch) (hfl : l.stackTraces = false) (D : va_G) (dA aK aV : Nat → Nat) (x0 : Nat) (x1 : Nat) (K : XK) (u : XS) (mc ms : Nat) (Post : XK → XS → Prop) (PX : Nat → XK → XS → Prop) (h : xw8_rule x0 x1 K u mc ms Post PX) (sz : Nat) : vx_Met l yX8_rule (ws_ yX8_rule cX8_rule 8 (Option.none : Option Jvm.ClassFile.FieldType)) (jx_rm 6 130 mc ms) (jx_Pc D dA aK aV K u sz [.ref x0, .ref x1]) (va_Qv (fun w : XK × XS => Post w.1 w.2) (jx_BA D dA K sz) (AX K sz)) (jx_XC 2 PX D dA K sz (AX K sz)) mc ms (AX K sz) := by
  refine jx_startT hfl [.ref x0, .ref x1] [(0, .ref x0), (1, .ref x1)] (by decide) (Nat.le_of_ble_eq_true rfl) rfl (fun X hX hY hE => ?_)
  unfold xw8_rule at h
  refine jj_aload_n hX dX8_rule_0 1 rfl 1 rfl ?_
  obtain ⟨k1, h⟩ := h
  refine xgn5_1 hX hY k1 dX8_rule_1 nq278 4 rfl ?_
  refine jj_bipush hX dX8_rule_4 cb_24 6 rfl ?_
  refine jj_icmp_ne hX dX8_rule_6 26 9 (by decide) rfl (fun c6 => ?_) (fun c6 => ?_)
  · have h := h.1 c6
    refine jj_aload_n hX dX8_rule_26 0 rfl 27 rfl ?_
    obtain ⟨k27, h⟩ := h
    refine kxw8_next hX hY k27 q637 (Nat.le_of_ble_eq_true rfl) (Nat.le_of_ble_eq_true rfl) (Nat.zero_le _) (Nat.zero_le _) (Nat.le_of_ble_eq_true rfl) dX8_rule_27 30 rfl h (fun u27 h => ?_)
    refine jj_aload_n hX dX8_rule_30 0 rfl 31 rfl ?_
    refine xg8_3 hX hY k27 dX8_rule_31 q661 34 rfl ?_
    refine jj_iconst hX dX8_rule_34 ci_1 35 rfl ?_
    refine jj_icmp_ne hX dX8_rule_35 52 38 (by decide) rfl (fun c35 => ?_) (fun c35 => ?_)
    · have h := h.1 c35
      refine jj_aload_n hX dX8_rule_52 0 rfl 53 rfl ?_
      refine kxw8_wrong hX hY k27 q748 (Nat.le_of_ble_eq_true rfl) (Nat.le_of_ble_eq_true rfl) (Nat.zero_le _) (Nat.zero_le _) (Nat.le_of_ble_eq_true rfl) dX8_rule_53 56 rfl h (fun r53 u53 h => ?_)
      obtain ⟨k56, h⟩ := h
      refine jj_athrow hX hY jf2 k56 dX8_rule_56 ?_
      exact jt_out (e := 2) hX hE (Nat.zero_le _) (Nat.zero_le _) XLe.rf h
    · have h := h.2 c35
      refine jj_aload_n hX dX8_rule_38 0 rfl 39 rfl ?_
      refine xg8_2 hX hY k27 dX8_rule_39 q660 42 rfl ?_
      refine jj_aload_n hX dX8_rule_42 0 rfl 43 rfl ?_
      refine xg8_1 hX hY k27 dX8_rule_43 q659 46 rfl ?_
      refine jj_isub hX dX8_rule_46 47 rfl ?_
      refine jj_bipush hX dX8_rule_47 cb_6 49 rfl ?_
      refine jj_icmp_le hX dX8_rule_49 57 52 (by decide) rfl (fun c49 => ?_) (fun c49 => ?_)
      · have h := h.1 c49
        refine jj_aload_n hX dX8_rule_57 0 rfl 58 rfl ?_
        refine xg8_2 hX hY k27 dX8_rule_58 q660 61 rfl ?_
        refine jj_aload_n hX dX8_rule_61 0 rfl 62 rfl ?_
        refine xg8_1 hX hY k27 dX8_rule_62 q659 65 rfl ?_
        refine jj_isub hX dX8_rule_65 66 rfl ?_
        obtain ⟨hn66, hm66, h⟩ := h
        obtain ⟨hc66, hs66, h⟩ := h
        refine jx_na1 hX hY hn66 _ rfl hm66 hc66 hs66 dX8_rule_66 68 rfl (fun b66 K66 u66 hb66 eK66 e66 => ?_)
        have h := h b66 K66 u66 hb66 eK66 e66
        have hleb66 : XLe K K66 := by rw [eK66]; exact XLe.up hb66
        have k66 := hleb66.at k1 (by simp)
        have k66_1 := hleb66.at k27 (by simp)
        have hl66 := XLe.rf.tr hleb66
        have k66_2 : K66 b66 = (3, ((xi u27 x0 2) - (xi u27 x0 1)).toNatClampNeg) := by rw [eK66]; exact xup_at
        refine jj_cs (k2 := 1) (n2 := (0 + ((xi u27 x0 2) - (xi u27 x0 1)).toNatClampNeg)) rfl rfl ?_
        refine jj_astore_n (lv2 := [(0, .ref x0), (1, .ref x1), (2, .ref b66)]) hX dX8_rule_68 (Nat.le_of_ble_eq_true rfl) [1, 2, 0] rfl 69 rfl ?_
        refine jj_aload_n hX dX8_rule_69 0 rfl 70 rfl ?_
        refine xg8_7 hX hY k66_1 dX8_rule_70 q665 73 rfl ?_
        obtain ⟨b73, g73, h⟩ := h
        refine jj_st (st2 := [.ref b73]) (by rw [va_rf_some g73]) ?_
        obtain ⟨k73, h⟩ := h
        refine xgn0_2 hX hY k73 dX8_rule_73 nq412 76 rfl ?_
        refine jj_aload_n hX dX8_rule_76 0 rfl 77 rfl ?_
        refine xg8_1 hX hY k66_1 dX8_rule_77 q659 80 rfl ?_
        refine jj_aload_n hX dX8_rule_80 2 rfl 81 rfl ?_
        refine jj_iconst hX dX8_rule_81 ci_0 82 rfl ?_
        refine jj_aload_n hX dX8_rule_82 2 rfl 83 rfl ?_
        refine jx_alen hX hY.1 k66_2 dX8_rule_83 84 rfl ?_
        obtain ⟨b84, g84, h⟩ := h
        refine jj_st (st2 := [.int (nI ((xi u27 x0 2) - (xi u27 x0 1)).toNatClampNeg), .int (0 : Int32), .ref b66, .int (xi u66 x0 1), .ref b84]) (by rw [va_rf_some g84]) ?_
        obtain ⟨n84, k84, h⟩ := h
        obtain ⟨g84_1, g84_2, g84_3, g84_4, g84_5, h⟩ := h
        refine jx_copyi hX hY k84 k66_2 (by decide) q752 g84_1 g84_2 g84_3 g84_4 g84_5 (Nat.le_of_ble_eq_true rfl) (by decide) (Nat.le_of_ble_eq_true rfl) dX8_rule_84 87 rfl (fun u84 e84 => ?_)
        have h := h u84 e84
        refine jj_aload_n hX dX8_rule_87 0 rfl 88 rfl ?_
        refine kxw8_next hX hY k66_1 q637 (Nat.le_of_ble_eq_true rfl) (Nat.le_of_ble_eq_true rfl) hc66 hs66 (Nat.le_of_ble_eq_true rfl) dX8_rule_88 91 rfl h (fun u88 h => ?_)
        refine jj_aload_n hX dX8_rule_91 0 rfl 92 rfl ?_
        refine jk_ldc (i := 2) hX hY.2.2.1 (by decide) rfl dX8_rule_92 94 rfl ?_
        refine kxw8_isWord hX hY k66_1 q688 (Nat.le_of_ble_eq_true rfl) (Nat.le_of_ble_eq_true rfl) hc66 hs66 (Nat.le_of_ble_eq_true rfl) dX8_rule_94 97 rfl h (fun r94 u94 hb94 h => ?_)
        refine jj_if_ne hX dX8_rule_97 105 100 (by decide) rfl (fun c97 => ?_) (fun c97 => ?_)
        · have h := h.1 c97
          refine jj_aload_n hX dX8_rule_105 0 rfl 106 rfl ?_
          refine kxw8_next hX hY k66_1 q637 (Nat.le_of_ble_eq_true rfl) (Nat.le_of_ble_eq_true rfl) hc66 hs66 (Nat.le_of_ble_eq_true rfl) dX8_rule_106 109 rfl h (fun u106 h => ?_)
          refine jj_iconst hX dX8_rule_109 ci_3 110 rfl ?_
          obtain ⟨hc110, hs110, h⟩ := h
          refine jx_na0 hX hY (by decide) 3 kc_3 (Nat.le_of_ble_eq_true rfl) hc110 hs110 dX8_rule_110 112 rfl (fun b110 K110 u110 hb110 eK110 e110 => ?_)
          have h := h b110 K110 u110 hb110 eK110 e110
          have hleb110 : XLe K66 K110 := by rw [eK110]; exact XLe.up hb110
          have k110 := hleb110.at k66 (by simp)
          have k110_1 := hleb110.at k66_1 (by simp)
          have k110_2 := hleb110.at k66_2 (by simp)
          have k110_3 := hleb110.at k73 (by simp)
          have k110_4 := hleb110.at k84 (by simp)
          have hl110 := hl66.tr hleb110
          have k110_5 : K110 b110 = (2, 3) := by rw [eK110]; exact xup_at
          refine jj_cs (k2 := 2) (n2 := ((0 + ((xi u27 x0 2) - (xi u27 x0 1)).toNatClampNeg) + 3)) rfl rfl ?_
          refine jj_astore_n (lv2 := [(0, .ref x0), (1, .ref x1), (2, .ref b66), (3, .ref b110)]) hX dX8_rule_112 (Nat.le_of_ble_eq_true rfl) [1, 2, 3, 0] rfl 113 rfl ?_
          refine jj_iconst hX dX8_rule_113 ci_0 114 rfl ?_
          refine jj_istore (lv2 := [(0, .ref x0), (1, .ref x1), (2, .ref b66), (3, .ref b110), (4, .int (0 : Int32))]) hX dX8_rule_114 (Nat.le_of_ble_eq_true rfl) [1, 2, 3, 4, 0] rfl 116 rfl ?_
          obtain ⟨n9, h⟩ := h
          exact txw8_rule_L116 hX hY hE n9 _ _ _ _ _ hl110 hc110 hs110 h
        · have h := h.2 c97
          refine jj_aload_n hX dX8_rule_100 0 rfl 101 rfl ?_
          refine kxw8_wrong hX hY k66_1 q748 (Nat.le_of_ble_eq_true rfl) (Nat.le_of_ble_eq_true rfl) hc66 hs66 (Nat.le_of_ble_eq_true rfl) dX8_rule_101 104 rfl h (fun r101 u101 h => ?_)
          obtain ⟨k104, h⟩ := h
          refine jj_athrow hX hY jf2 k104 dX8_rule_104 ?_
          exact jt_out (e := 2) hX hE hc66 hs66 hl66 h
      · have h := h.2 c49
        refine jj_aload_n hX dX8_rule_52 0 rfl 53 rfl ?_
        refine kxw8_wrong hX hY k27 q748 (Nat.le_of_ble_eq_true rfl) (Nat.le_of_ble_eq_true rfl) (Nat.zero_le _) (Nat.zero_le _) (Nat.le_of_ble_eq_true rfl) dX8_rule_53 56 rfl h (fun r53 u53 h => ?_)
        obtain ⟨k56, h⟩ := h
        refine jj_athrow hX hY jf2 k56 dX8_rule_56 ?_
        exact jt_out (e := 2) hX hE (Nat.zero_le _) (Nat.zero_le _) XLe.rf h
  · have h := h.2 c6
    refine jj_aload_n hX dX8_rule_9 0 rfl 10 rfl ?_
    obtain ⟨k10, h⟩ := h
    refine xg8_7 hX hY k10 dX8_rule_10 q665 13 rfl ?_
    obtain ⟨b13, g13, h⟩ := h
    refine jj_st (st2 := [.ref b13]) (by rw [va_rf_some g13]) ?_
    obtain ⟨k13, h⟩ := h
    refine xgn0_1 hX hY k13 dX8_rule_13 nq409 16 rfl ?_
    refine jj_bipush hX dX8_rule_16 cb_6 18 rfl ?_
    refine jj_aload_n hX dX8_rule_18 0 rfl 19 rfl ?_
    refine xg8_1 hX hY k10 dX8_rule_19 q659 22 rfl ?_
    obtain ⟨b22, g22, h⟩ := h
    refine jj_st (st2 := [.int (xi u x0 1), .int (6 : Int32), .ref b22]) (by rw [va_rf_some g22]) ?_
    obtain ⟨k22, h⟩ := h
    refine kxw2_at hX hY k22 q744 (Nat.le_of_ble_eq_true rfl) (Nat.le_of_ble_eq_true rfl) (Nat.zero_le _) (Nat.zero_le _) (Nat.le_of_ble_eq_true rfl) dX8_rule_22 25 rfl h (fun r22 u22 h => ?_)
    obtain ⟨k25, h⟩ := h
    refine jj_athrow hX hY jf2 k25 dX8_rule_25 ?_
    exact jt_out (e := 2) hX hE (Nat.zero_le _) (Nat.zero_le _) XLe.rf h
theorem hd_xw8_rule : yX8_rule.cls ≠ "java/lang/invoke/MethodHandle" ∧ yX8_rule.cls ≠ "java/lang/invoke/VarHandle" ∧ (parseMethodDescriptor yX8_rule.desc).map (fun d => d.parameters.length) = some 1 := by decide +kernel
theorem kxw8_rule {X : JC} {A : Nat → Prop} {Q : State → Prop} {nL k n pc : Nat} {lv : List (Nat × Value)} {st : List Value} {own : String} {cc : ByteArray} {ret : Option FieldType} {F LL mc ms ix mc2 ms2 : Nat} {D : va_G} {dA aK aV : Nat → Nat} {K : XK} {u : XS} {x0 : Nat} {x1 : Nat} {Post : XK → XS → Prop} {PX : Nat → XK → XS → Prop} (hX : JX X own cc nL ret F LL mc ms) (hY : JY X D dA aK aV A) (h1a : K x0 = (1, 8)) (hlk : (Cond.methodLink own ix yX8_rule) ∈ lw_all) (hF : 6 + 1 ≤ F) (hL : 8 + (8 + 11) + 130 ≤ LL) (hk : k + mc2 ≤ mc) (hk2 : n + ms2 ≤ ms) (hw : (st.map fun v => v.category).sum ≤ 8) (d : decode cc pc = .ok (.invokevirtual ix, 3)) (q : Nat) (hq : pc + 3 = q) (h : xw8_rule x0 x1 K u mc2 ms2 Post PX) (kx : ∀ (q9 : Nat) (K2 : XK) (u2 : XS), XLe K K2 → PX q9 K2 u2 → JT X A Q nL (XP D dA A K2 u2) (k + mc2) (n + ms2) pc lv (jx_en 2) q9) (kk : ∀ (K2 : XK) (u2 : XS), XLe K K2 → Post K2 u2 → JJ X A Q nL (XP D dA A K2 u2) (k + mc2) (n + ms2) q lv (st)) : JJ X A Q nL (XP D dA A K u) k n pc lv (.ref x1 :: .ref x0 :: st) :=
  jx_callTVv (na := 1) (As := [.ref x1]) hX hY jf8 h1a (fun sz => mxw8_rule (jj_l X) hY.2.2.2.2 D dA aK aV x0 x1 K u mc2 ms2 Post PX h sz) hlk q742 qs11 q136 q743 ⟨rfl, hd_xw8_rule⟩ rfl rfl hw hF hL hk hk2 d q hq kx kk
def xw8_table_B168 (G0 : XK → XS → Nat → Nat → Prop) (Post : XK → XS → Prop) (PX : Nat → XK → XS → Prop) (mc ms : Nat) (x0 : Nat) (x1 : Nat) (K : XK) (u : XS) (c s : Nat) : Prop :=
  K x0 = (1, 8) ∧
  ((xi u x0 3) = (3 : Int32) →
    xw8_next x0 K u (fun u182 =>
      G0 K u182 c s)) ∧
  (¬ (xi u x0 3) = (3 : Int32) →
    xw8_wrong x0 K u (fun r177 u177 =>
      K r177 = (1, 2) ∧
      PX r177 K u177))
def xw8_table_L0_S (Post : XK → XS → Prop) (PX : Nat → XK → XS → Prop) (mc ms : Nat) (x0 : Nat) (x1 : Nat) (R : XK → XS → Nat → Nat → Prop) (K : XK) (u : XS) (c s : Nat) : Prop :=
  K x0 = (1, 8) ∧
  ((xi u x0 3) = 0 →
    Post K u) ∧
  (¬ (xi u x0 3) = 0 →
    xw8_isWord x0 1 K u (fun r10 u10 =>
      (r10 = 0 →
        xw8_isWord x0 7 K u10 (fun r27 u27 =>
          (r27 = 0 →
            xw8_isWord x0 8 K u27 (fun r62 u62 =>
              (r62 = 0 →
                xw8_isWord x0 9 K u62 (fun r97 u97 =>
                  (r97 = 0 →
                    xw8_isWord x0 10 K u97 (fun r132 u132 =>
                      (r132 = 0 →
                        xw8_isWord x0 11 K u132 (fun r149 u149 =>
                          (r149 = 0 →
                            xw8_wrong x0 K u149 (fun r164 u164 =>
                              K r164 = (1, 2) ∧
                              PX r164 K u164)) ∧
                          (¬ r149 = 0 →
                            ∃ m157 w157, (c + m157) ≤ mc ∧ (s + w157) ≤ ms ∧ xw8_page x0 x1 K u149 m157 w157 (fun K157 u157 =>
                              xw8_table_B168 R Post PX mc ms x0 x1 K157 u157 (c + m157) (s + w157)) (fun q157 K157 u157 =>
                              PX q157 K157 u157)))) ∧
                      (¬ r132 = 0 →
                        ∃ m140 w140, (c + m140) ≤ mc ∧ (s + w140) ≤ ms ∧ xw8_line x0 x1 K u132 m140 w140 (fun K140 u140 =>
                          xw8_table_B168 R Post PX mc ms x0 x1 K140 u140 (c + m140) (s + w140)) (fun q140 K140 u140 =>
                          PX q140 K140 u140)))) ∧
                  (¬ r97 = 0 →
                    K x1 = (1, 5) ∧
                    ((xi u97 x1 4) < 0 →
                      ∃ m120 w120, (c + m120) ≤ mc ∧ (s + w120) ≤ ms ∧ xw8_once x0 (0 : Int32) (1 : Int32) (63 : Int32) K u97 m120 w120 (fun r120 K120 u120 =>
                        ∀ u123 : XS, u123 = xsi u120 x1 4 r120 →
                        xw8_table_B168 R Post PX mc ms x0 x1 K120 u123 (c + m120) (s + w120)) (fun q120 K120 u120 =>
                        PX q120 K120 u120)) ∧
                    (¬ (xi u97 x1 4) < 0 →
                      ∃ m120 w120, (c + m120) ≤ mc ∧ (s + w120) ≤ ms ∧ xw8_once x0 (1 : Int32) (1 : Int32) (63 : Int32) K u97 m120 w120 (fun r120 K120 u120 =>
                        ∀ u123 : XS, u123 = xsi u120 x1 4 r120 →
                        xw8_table_B168 R Post PX mc ms x0 x1 K120 u123 (c + m120) (s + w120)) (fun q120 K120 u120 =>
                        PX q120 K120 u120))))) ∧
              (¬ r62 = 0 →
                K x1 = (1, 5) ∧
                ((xi u62 x1 3) < 0 →
                  ∃ m85 w85, (c + m85) ≤ mc ∧ (s + w85) ≤ ms ∧ xw8_once x0 (0 : Int32) (1 : Int32) (63 : Int32) K u62 m85 w85 (fun r85 K85 u85 =>
                    ∀ u88 : XS, u88 = xsi u85 x1 3 r85 →
                    xw8_table_B168 R Post PX mc ms x0 x1 K85 u88 (c + m85) (s + w85)) (fun q85 K85 u85 =>
                    PX q85 K85 u85)) ∧
                (¬ (xi u62 x1 3) < 0 →
                  ∃ m85 w85, (c + m85) ≤ mc ∧ (s + w85) ≤ ms ∧ xw8_once x0 (1 : Int32) (1 : Int32) (63 : Int32) K u62 m85 w85 (fun r85 K85 u85 =>
                    ∀ u88 : XS, u88 = xsi u85 x1 3 r85 →
                    xw8_table_B168 R Post PX mc ms x0 x1 K85 u88 (c + m85) (s + w85)) (fun q85 K85 u85 =>
                    PX q85 K85 u85))))) ∧
          (¬ r27 = 0 →
            K x1 = (1, 5) ∧
            ((xi u27 x1 2) < 0 →
              ∃ m50 w50, (c + m50) ≤ mc ∧ (s + w50) ≤ ms ∧ xw8_once x0 (0 : Int32) (1 : Int32) (63 : Int32) K u27 m50 w50 (fun r50 K50 u50 =>
                ∀ u53 : XS, u53 = xsi u50 x1 2 r50 →
                xw8_table_B168 R Post PX mc ms x0 x1 K50 u53 (c + m50) (s + w50)) (fun q50 K50 u50 =>
                PX q50 K50 u50)) ∧
            (¬ (xi u27 x1 2) < 0 →
              ∃ m50 w50, (c + m50) ≤ mc ∧ (s + w50) ≤ ms ∧ xw8_once x0 (1 : Int32) (1 : Int32) (63 : Int32) K u27 m50 w50 (fun r50 K50 u50 =>
                ∀ u53 : XS, u53 = xsi u50 x1 2 r50 →
                xw8_table_B168 R Post PX mc ms x0 x1 K50 u53 (c + m50) (s + w50)) (fun q50 K50 u50 =>
                PX q50 K50 u50))))) ∧
      (¬ r10 = 0 →
        ∃ m18 w18, (c + m18) ≤ mc ∧ (s + w18) ≤ ms ∧ xw8_rule x0 x1 K u10 m18 w18 (fun K18 u18 =>
          xw8_table_B168 R Post PX mc ms x0 x1 K18 u18 (c + m18) (s + w18)) (fun q18 K18 u18 =>
          PX q18 K18 u18))))
def xw8_table_L0 (Post : XK → XS → Prop) (PX : Nat → XK → XS → Prop) (mc ms : Nat) (x0 : Nat) (x1 : Nat) : Nat → XK → XS → Nat → Nat → Prop
  | 0 => fun _ _ _ _ => False
  | n + 1 => fun K u c s => xw8_table_L0_S Post PX mc ms x0 x1 (xw8_table_L0 Post PX mc ms x0 x1 n) K u c s
/-- RaisedPress$Reader.table(LRaisedPress$Table;)V -/
def xw8_table (x0 : Nat) (x1 : Nat) (K : XK) (u : XS) (mc ms : Nat) (Post : XK → XS → Prop) (PX : Nat → XK → XS → Prop) : Prop :=
  ∃ n, xw8_table_L0 Post PX mc ms x0 x1 n K u 0 0
set_option maxHeartbeats 4000000 in
set_option maxRecDepth 100000 in
theorem txw8_table_B168 {X : JC} {D : va_G} {dA aK aV : Nat → Nat} {sz : Nat} {K0 : XK} {mc ms : Nat} {G0 : XK → XS → Nat → Nat → Prop} {Post : XK → XS → Prop} {PX : Nat → XK → XS → Prop} {x0 : Nat} {x1 : Nat} {K : XK} {u : XS} {c s : Nat} (hX : JX X yX8_table.cls cX8_table 2 (Option.none : Option Jvm.ClassFile.FieldType) 7 157 mc ms) (hY : JY X D dA aK aV (AX K0 sz)) (hE : JE X []) (hG0 : ∀ (K : XK) (u : XS) (c s : Nat) (hl : XLe K0 K) (hc : c ≤ mc) (hs : s ≤ ms), G0 K u c s → JJ X (AX K0 sz) (jx_QX X (va_Qv (fun w : XK × XS => Post w.1 w.2) (jx_BA D dA K0 sz) (AX K0 sz)) (jx_XC 2 PX D dA K0 sz (AX K0 sz)) mc ms (AX K0 sz)) 2 (XP D dA (AX K0 sz) K u) c s 0 [(0, .ref x0), (1, .ref x1)] []) (hl : XLe K0 K) (hc : c ≤ mc) (hs : s ≤ ms) (h : xw8_table_B168 G0 Post PX mc ms x0 x1  K u c s) : JJ X (AX K0 sz) (jx_QX X (va_Qv (fun w : XK × XS => Post w.1 w.2) (jx_BA D dA K0 sz) (AX K0 sz)) (jx_XC 2 PX D dA K0 sz (AX K0 sz)) mc ms (AX K0 sz)) 2 (XP D dA (AX K0 sz) K u) c s 168 [(0, .ref x0), (1, .ref x1)] [] := by
  unfold xw8_table_B168 at h
  refine jj_aload_n hX dX8_table_168 0 rfl 169 rfl ?_
  obtain ⟨k169, h⟩ := h
  refine xg8_3 hX hY k169 dX8_table_169 q661 172 rfl ?_
  refine jj_iconst hX dX8_table_172 ci_3 173 rfl ?_
  refine jj_icmp_eq hX dX8_table_173 181 176 (by decide) rfl (fun c173 => ?_) (fun c173 => ?_)
  · have h := h.1 c173
    refine jj_aload_n hX dX8_table_181 0 rfl 182 rfl ?_
    refine kxw8_next hX hY k169 q637 (Nat.le_of_ble_eq_true rfl) (Nat.le_of_ble_eq_true rfl) hc hs (Nat.le_of_ble_eq_true rfl) dX8_table_182 185 rfl h (fun u182 h => ?_)
    refine jj_goto hX dX8_table_185 0 (by decide) ?_
    exact hG0 _ _ _ _ hl hc hs h
  · have h := h.2 c173
    refine jj_aload_n hX dX8_table_176 0 rfl 177 rfl ?_
    refine kxw8_wrong hX hY k169 q748 (Nat.le_of_ble_eq_true rfl) (Nat.le_of_ble_eq_true rfl) hc hs (Nat.le_of_ble_eq_true rfl) dX8_table_177 180 rfl h (fun r177 u177 h => ?_)
    obtain ⟨k180, h⟩ := h
    refine jj_athrow hX hY jf2 k180 dX8_table_180 ?_
    exact jt_out (e := 2) hX hE hc hs hl h
set_option maxHeartbeats 4000000 in
set_option maxRecDepth 100000 in
theorem txw8_table_L0 {X : JC} {D : va_G} {dA aK aV : Nat → Nat} {sz : Nat} {K0 : XK} {mc ms : Nat} {Post : XK → XS → Prop} {PX : Nat → XK → XS → Prop} {x0 : Nat} {x1 : Nat} (hX : JX X yX8_table.cls cX8_table 2 (Option.none : Option Jvm.ClassFile.FieldType) 7 157 mc ms) (hY : JY X D dA aK aV (AX K0 sz)) (hE : JE X []) : ∀ (n : Nat) (K : XK) (u : XS) (c s : Nat) (hl : XLe K0 K) (hc : c ≤ mc) (hs : s ≤ ms), xw8_table_L0 Post PX mc ms x0 x1 n K u c s → JJ X (AX K0 sz) (jx_QX X (va_Qv (fun w : XK × XS => Post w.1 w.2) (jx_BA D dA K0 sz) (AX K0 sz)) (jx_XC 2 PX D dA K0 sz (AX K0 sz)) mc ms (AX K0 sz)) 2 (XP D dA (AX K0 sz) K u) c s 0 [(0, .ref x0), (1, .ref x1)] [] := by
  intro n
  induction n with
  | zero =>
    intro K u c s hl hc hs h
    exact h.elim
  | succ n ih =>
    intro K u c s hl hc hs h
    have h : xw8_table_L0_S Post PX mc ms x0 x1 (xw8_table_L0 Post PX mc ms x0 x1 n) K u c s := h
    unfold xw8_table_L0_S at h
    refine jj_aload_n hX dX8_table_0 0 rfl 1 rfl ?_
    obtain ⟨k1, h⟩ := h
    refine xg8_3 hX hY k1 dX8_table_1 q661 4 rfl ?_
    refine jj_if_eq hX dX8_table_4 188 7 (by decide) rfl (fun c4 => ?_) (fun c4 => ?_)
    · have h := h.1 c4
      exact jt_ret (jj_retv (post := (fun w : XK × XS => Post w.1 w.2)) (u := (K, u)) hX dX8_table_188 hc hs (jx_hBA hl) h)
    · have h := h.2 c4
      refine jj_aload_n hX dX8_table_7 0 rfl 8 rfl ?_
      refine jk_ldc (i := 1) hX hY.2.2.1 (by decide) rfl dX8_table_8 10 rfl ?_
      refine kxw8_isWord hX hY k1 q688 (Nat.le_of_ble_eq_true rfl) (Nat.le_of_ble_eq_true rfl) hc hs (Nat.le_of_ble_eq_true rfl) dX8_table_10 13 rfl h (fun r10 u10 hb10 h => ?_)
      refine jj_if_eq hX dX8_table_13 24 16 (by decide) rfl (fun c13 => ?_) (fun c13 => ?_)
      · have h := h.1 c13
        refine jj_aload_n hX dX8_table_24 0 rfl 25 rfl ?_
        refine jk_ldc (i := 7) hX hY.2.2.1 (by decide) rfl dX8_table_25 27 rfl ?_
        refine kxw8_isWord hX hY k1 q688 (Nat.le_of_ble_eq_true rfl) (Nat.le_of_ble_eq_true rfl) hc hs (Nat.le_of_ble_eq_true rfl) dX8_table_27 30 rfl h (fun r27 u27 hb27 h => ?_)
        refine jj_if_eq hX dX8_table_30 59 33 (by decide) rfl (fun c30 => ?_) (fun c30 => ?_)
        · have h := h.1 c30
          refine jj_aload_n hX dX8_table_59 0 rfl 60 rfl ?_
          refine jk_ldc (i := 8) hX hY.2.2.1 (by decide) rfl dX8_table_60 62 rfl ?_
          refine kxw8_isWord hX hY k1 q688 (Nat.le_of_ble_eq_true rfl) (Nat.le_of_ble_eq_true rfl) hc hs (Nat.le_of_ble_eq_true rfl) dX8_table_62 65 rfl h (fun r62 u62 hb62 h => ?_)
          refine jj_if_eq hX dX8_table_65 94 68 (by decide) rfl (fun c65 => ?_) (fun c65 => ?_)
          · have h := h.1 c65
            refine jj_aload_n hX dX8_table_94 0 rfl 95 rfl ?_
            refine jk_ldc (i := 9) hX hY.2.2.1 (by decide) rfl dX8_table_95 97 rfl ?_
            refine kxw8_isWord hX hY k1 q688 (Nat.le_of_ble_eq_true rfl) (Nat.le_of_ble_eq_true rfl) hc hs (Nat.le_of_ble_eq_true rfl) dX8_table_97 100 rfl h (fun r97 u97 hb97 h => ?_)
            refine jj_if_eq hX dX8_table_100 129 103 (by decide) rfl (fun c100 => ?_) (fun c100 => ?_)
            · have h := h.1 c100
              refine jj_aload_n hX dX8_table_129 0 rfl 130 rfl ?_
              refine jk_ldc (i := 10) hX hY.2.2.1 (by decide) rfl dX8_table_130 132 rfl ?_
              refine kxw8_isWord hX hY k1 q688 (Nat.le_of_ble_eq_true rfl) (Nat.le_of_ble_eq_true rfl) hc hs (Nat.le_of_ble_eq_true rfl) dX8_table_132 135 rfl h (fun r132 u132 hb132 h => ?_)
              refine jj_if_eq hX dX8_table_135 146 138 (by decide) rfl (fun c135 => ?_) (fun c135 => ?_)
              · have h := h.1 c135
                refine jj_aload_n hX dX8_table_146 0 rfl 147 rfl ?_
                refine jk_ldc (i := 11) hX hY.2.2.1 (by decide) rfl dX8_table_147 149 rfl ?_
                refine kxw8_isWord hX hY k1 q688 (Nat.le_of_ble_eq_true rfl) (Nat.le_of_ble_eq_true rfl) hc hs (Nat.le_of_ble_eq_true rfl) dX8_table_149 152 rfl h (fun r149 u149 hb149 h => ?_)
                refine jj_if_eq hX dX8_table_152 163 155 (by decide) rfl (fun c152 => ?_) (fun c152 => ?_)
                · have h := h.1 c152
                  refine jj_aload_n hX dX8_table_163 0 rfl 164 rfl ?_
                  refine kxw8_wrong hX hY k1 q748 (Nat.le_of_ble_eq_true rfl) (Nat.le_of_ble_eq_true rfl) hc hs (Nat.le_of_ble_eq_true rfl) dX8_table_164 167 rfl h (fun r164 u164 h => ?_)
                  obtain ⟨k167, h⟩ := h
                  refine jj_athrow hX hY jf2 k167 dX8_table_167 ?_
                  exact jt_out (e := 2) hX hE hc hs hl h
                · have h := h.2 c152
                  refine jj_aload_n hX dX8_table_155 0 rfl 156 rfl ?_
                  refine jj_aload_n hX dX8_table_156 1 rfl 157 rfl ?_
                  obtain ⟨m157, w157, hc157, hs157, h⟩ := h
                  refine kxw8_page hX hY k1 q863 (Nat.le_of_ble_eq_true rfl) (Nat.le_of_ble_eq_true rfl) hc157 hs157 (Nat.le_of_ble_eq_true rfl) dX8_table_157 160 rfl h (fun q157 K157 u157 hle157 h => jt_cs (k2 := (c + m157)) (n2 := (s + w157)) (by simp) (by simp) ?_) (fun K157 u157 hle157 h => jj_cs (k2 := (c + m157)) (n2 := (s + w157)) (by simp) (by simp) ?_)
                  · have k157 := hle157.at k1 (by simp)
                    have hl157 := hl.tr hle157
                    exact jt_out (e := 2) hX hE hc157 hs157 hl157 h
                  · have k157 := hle157.at k1 (by simp)
                    have hl157 := hl.tr hle157
                    refine jj_goto hX dX8_table_160 168 (by decide) ?_
                    exact txw8_table_B168 hX hY hE ih hl157 hc157 hs157 h
              · have h := h.2 c135
                refine jj_aload_n hX dX8_table_138 0 rfl 139 rfl ?_
                refine jj_aload_n hX dX8_table_139 1 rfl 140 rfl ?_
                obtain ⟨m140, w140, hc140, hs140, h⟩ := h
                refine kxw8_line hX hY k1 q858 (Nat.le_of_ble_eq_true rfl) (Nat.le_of_ble_eq_true rfl) hc140 hs140 (Nat.le_of_ble_eq_true rfl) dX8_table_140 143 rfl h (fun q140 K140 u140 hle140 h => jt_cs (k2 := (c + m140)) (n2 := (s + w140)) (by simp) (by simp) ?_) (fun K140 u140 hle140 h => jj_cs (k2 := (c + m140)) (n2 := (s + w140)) (by simp) (by simp) ?_)
                · have k140 := hle140.at k1 (by simp)
                  have hl140 := hl.tr hle140
                  exact jt_out (e := 2) hX hE hc140 hs140 hl140 h
                · have k140 := hle140.at k1 (by simp)
                  have hl140 := hl.tr hle140
                  refine jj_goto hX dX8_table_143 168 (by decide) ?_
                  exact txw8_table_B168 hX hY hE ih hl140 hc140 hs140 h
            · have h := h.2 c100
              refine jj_aload_n hX dX8_table_103 1 rfl 104 rfl ?_
              refine jj_aload_n hX dX8_table_104 0 rfl 105 rfl ?_
              refine jj_aload_n hX dX8_table_105 1 rfl 106 rfl ?_
              obtain ⟨k106, h⟩ := h
              refine xgn5_4 hX hY k106 dX8_table_106 nq289 109 rfl ?_
              refine jj_if_lt hX dX8_table_109 116 112 (by decide) rfl (fun c109 => ?_) (fun c109 => ?_)
              · have h := h.1 c109
                refine jj_iconst hX dX8_table_116 ci_0 117 rfl ?_
                refine jj_iconst hX dX8_table_117 ci_1 118 rfl ?_
                refine jj_bipush hX dX8_table_118 cb_63 120 rfl ?_
                obtain ⟨m120, w120, hc120, hs120, h⟩ := h
                refine kxw8_once hX hY k1 q851 (Nat.le_of_ble_eq_true rfl) (Nat.le_of_ble_eq_true rfl) hc120 hs120 (Nat.le_of_ble_eq_true rfl) dX8_table_120 123 rfl h (fun q120 K120 u120 hle120 h => jt_cs (k2 := (c + m120)) (n2 := (s + w120)) (by simp) (by simp) ?_) (fun r120 K120 u120 hle120 h => jj_cs (k2 := (c + m120)) (n2 := (s + w120)) (by simp) (by simp) ?_)
                · have k120 := hle120.at k1 (by simp)
                  have k120_1 := hle120.at k106 (by simp)
                  have hl120 := hl.tr hle120
                  exact jt_out (e := 2) hX hE hc120 hs120 hl120 h
                · have k120 := hle120.at k1 (by simp)
                  have k120_1 := hle120.at k106 (by simp)
                  have hl120 := hl.tr hle120
                  refine xpn5_4 hX hY k120_1 dX8_table_123 nq289 126 rfl (fun u123 e123 => ?_)
                  have h := h u123 e123
                  refine jj_goto hX dX8_table_126 168 (by decide) ?_
                  exact txw8_table_B168 hX hY hE ih hl120 hc120 hs120 h
              · have h := h.2 c109
                refine jj_iconst hX dX8_table_112 ci_1 113 rfl ?_
                refine jj_goto hX dX8_table_113 117 (by decide) ?_
                refine jj_iconst hX dX8_table_117 ci_1 118 rfl ?_
                refine jj_bipush hX dX8_table_118 cb_63 120 rfl ?_
                obtain ⟨m120, w120, hc120, hs120, h⟩ := h
                refine kxw8_once hX hY k1 q851 (Nat.le_of_ble_eq_true rfl) (Nat.le_of_ble_eq_true rfl) hc120 hs120 (Nat.le_of_ble_eq_true rfl) dX8_table_120 123 rfl h (fun q120 K120 u120 hle120 h => jt_cs (k2 := (c + m120)) (n2 := (s + w120)) (by simp) (by simp) ?_) (fun r120 K120 u120 hle120 h => jj_cs (k2 := (c + m120)) (n2 := (s + w120)) (by simp) (by simp) ?_)
                · have k120 := hle120.at k1 (by simp)
                  have k120_1 := hle120.at k106 (by simp)
                  have hl120 := hl.tr hle120
                  exact jt_out (e := 2) hX hE hc120 hs120 hl120 h
                · have k120 := hle120.at k1 (by simp)
                  have k120_1 := hle120.at k106 (by simp)
                  have hl120 := hl.tr hle120
                  refine xpn5_4 hX hY k120_1 dX8_table_123 nq289 126 rfl (fun u123 e123 => ?_)
                  have h := h u123 e123
                  refine jj_goto hX dX8_table_126 168 (by decide) ?_
                  exact txw8_table_B168 hX hY hE ih hl120 hc120 hs120 h
          · have h := h.2 c65
            refine jj_aload_n hX dX8_table_68 1 rfl 69 rfl ?_
            refine jj_aload_n hX dX8_table_69 0 rfl 70 rfl ?_
            refine jj_aload_n hX dX8_table_70 1 rfl 71 rfl ?_
            obtain ⟨k71, h⟩ := h
            refine xgn5_3 hX hY k71 dX8_table_71 nq285 74 rfl ?_
            refine jj_if_lt hX dX8_table_74 81 77 (by decide) rfl (fun c74 => ?_) (fun c74 => ?_)
            · have h := h.1 c74
              refine jj_iconst hX dX8_table_81 ci_0 82 rfl ?_
              refine jj_iconst hX dX8_table_82 ci_1 83 rfl ?_
              refine jj_bipush hX dX8_table_83 cb_63 85 rfl ?_
              obtain ⟨m85, w85, hc85, hs85, h⟩ := h
              refine kxw8_once hX hY k1 q851 (Nat.le_of_ble_eq_true rfl) (Nat.le_of_ble_eq_true rfl) hc85 hs85 (Nat.le_of_ble_eq_true rfl) dX8_table_85 88 rfl h (fun q85 K85 u85 hle85 h => jt_cs (k2 := (c + m85)) (n2 := (s + w85)) (by simp) (by simp) ?_) (fun r85 K85 u85 hle85 h => jj_cs (k2 := (c + m85)) (n2 := (s + w85)) (by simp) (by simp) ?_)
              · have k85 := hle85.at k1 (by simp)
                have k85_1 := hle85.at k71 (by simp)
                have hl85 := hl.tr hle85
                exact jt_out (e := 2) hX hE hc85 hs85 hl85 h
              · have k85 := hle85.at k1 (by simp)
                have k85_1 := hle85.at k71 (by simp)
                have hl85 := hl.tr hle85
                refine xpn5_3 hX hY k85_1 dX8_table_88 nq285 91 rfl (fun u88 e88 => ?_)
                have h := h u88 e88
                refine jj_goto hX dX8_table_91 168 (by decide) ?_
                exact txw8_table_B168 hX hY hE ih hl85 hc85 hs85 h
            · have h := h.2 c74
              refine jj_iconst hX dX8_table_77 ci_1 78 rfl ?_
              refine jj_goto hX dX8_table_78 82 (by decide) ?_
              refine jj_iconst hX dX8_table_82 ci_1 83 rfl ?_
              refine jj_bipush hX dX8_table_83 cb_63 85 rfl ?_
              obtain ⟨m85, w85, hc85, hs85, h⟩ := h
              refine kxw8_once hX hY k1 q851 (Nat.le_of_ble_eq_true rfl) (Nat.le_of_ble_eq_true rfl) hc85 hs85 (Nat.le_of_ble_eq_true rfl) dX8_table_85 88 rfl h (fun q85 K85 u85 hle85 h => jt_cs (k2 := (c + m85)) (n2 := (s + w85)) (by simp) (by simp) ?_) (fun r85 K85 u85 hle85 h => jj_cs (k2 := (c + m85)) (n2 := (s + w85)) (by simp) (by simp) ?_)
              · have k85 := hle85.at k1 (by simp)
                have k85_1 := hle85.at k71 (by simp)
                have hl85 := hl.tr hle85
                exact jt_out (e := 2) hX hE hc85 hs85 hl85 h
              · have k85 := hle85.at k1 (by simp)
                have k85_1 := hle85.at k71 (by simp)
                have hl85 := hl.tr hle85
                refine xpn5_3 hX hY k85_1 dX8_table_88 nq285 91 rfl (fun u88 e88 => ?_)
                have h := h u88 e88
                refine jj_goto hX dX8_table_91 168 (by decide) ?_
                exact txw8_table_B168 hX hY hE ih hl85 hc85 hs85 h
        · have h := h.2 c30
          refine jj_aload_n hX dX8_table_33 1 rfl 34 rfl ?_
          refine jj_aload_n hX dX8_table_34 0 rfl 35 rfl ?_
          refine jj_aload_n hX dX8_table_35 1 rfl 36 rfl ?_
          obtain ⟨k36, h⟩ := h
          refine xgn5_2 hX hY k36 dX8_table_36 nq281 39 rfl ?_
          refine jj_if_lt hX dX8_table_39 46 42 (by decide) rfl (fun c39 => ?_) (fun c39 => ?_)
          · have h := h.1 c39
            refine jj_iconst hX dX8_table_46 ci_0 47 rfl ?_
            refine jj_iconst hX dX8_table_47 ci_1 48 rfl ?_
            refine jj_bipush hX dX8_table_48 cb_63 50 rfl ?_
            obtain ⟨m50, w50, hc50, hs50, h⟩ := h
            refine kxw8_once hX hY k1 q851 (Nat.le_of_ble_eq_true rfl) (Nat.le_of_ble_eq_true rfl) hc50 hs50 (Nat.le_of_ble_eq_true rfl) dX8_table_50 53 rfl h (fun q50 K50 u50 hle50 h => jt_cs (k2 := (c + m50)) (n2 := (s + w50)) (by simp) (by simp) ?_) (fun r50 K50 u50 hle50 h => jj_cs (k2 := (c + m50)) (n2 := (s + w50)) (by simp) (by simp) ?_)
            · have k50 := hle50.at k1 (by simp)
              have k50_1 := hle50.at k36 (by simp)
              have hl50 := hl.tr hle50
              exact jt_out (e := 2) hX hE hc50 hs50 hl50 h
            · have k50 := hle50.at k1 (by simp)
              have k50_1 := hle50.at k36 (by simp)
              have hl50 := hl.tr hle50
              refine xpn5_2 hX hY k50_1 dX8_table_53 nq281 56 rfl (fun u53 e53 => ?_)
              have h := h u53 e53
              refine jj_goto hX dX8_table_56 168 (by decide) ?_
              exact txw8_table_B168 hX hY hE ih hl50 hc50 hs50 h
          · have h := h.2 c39
            refine jj_iconst hX dX8_table_42 ci_1 43 rfl ?_
            refine jj_goto hX dX8_table_43 47 (by decide) ?_
            refine jj_iconst hX dX8_table_47 ci_1 48 rfl ?_
            refine jj_bipush hX dX8_table_48 cb_63 50 rfl ?_
            obtain ⟨m50, w50, hc50, hs50, h⟩ := h
            refine kxw8_once hX hY k1 q851 (Nat.le_of_ble_eq_true rfl) (Nat.le_of_ble_eq_true rfl) hc50 hs50 (Nat.le_of_ble_eq_true rfl) dX8_table_50 53 rfl h (fun q50 K50 u50 hle50 h => jt_cs (k2 := (c + m50)) (n2 := (s + w50)) (by simp) (by simp) ?_) (fun r50 K50 u50 hle50 h => jj_cs (k2 := (c + m50)) (n2 := (s + w50)) (by simp) (by simp) ?_)
            · have k50 := hle50.at k1 (by simp)
              have k50_1 := hle50.at k36 (by simp)
              have hl50 := hl.tr hle50
              exact jt_out (e := 2) hX hE hc50 hs50 hl50 h
            · have k50 := hle50.at k1 (by simp)
              have k50_1 := hle50.at k36 (by simp)
              have hl50 := hl.tr hle50
              refine xpn5_2 hX hY k50_1 dX8_table_53 nq281 56 rfl (fun u53 e53 => ?_)
              have h := h u53 e53
              refine jj_goto hX dX8_table_56 168 (by decide) ?_
              exact txw8_table_B168 hX hY hE ih hl50 hc50 hs50 h
      · have h := h.2 c13
        refine jj_aload_n hX dX8_table_16 0 rfl 17 rfl ?_
        refine jj_aload_n hX dX8_table_17 1 rfl 18 rfl ?_
        obtain ⟨m18, w18, hc18, hs18, h⟩ := h
        refine kxw8_rule hX hY k1 q740 (Nat.le_of_ble_eq_true rfl) (Nat.le_of_ble_eq_true rfl) hc18 hs18 (Nat.le_of_ble_eq_true rfl) dX8_table_18 21 rfl h (fun q18 K18 u18 hle18 h => jt_cs (k2 := (c + m18)) (n2 := (s + w18)) (by simp) (by simp) ?_) (fun K18 u18 hle18 h => jj_cs (k2 := (c + m18)) (n2 := (s + w18)) (by simp) (by simp) ?_)
        · have k18 := hle18.at k1 (by simp)
          have hl18 := hl.tr hle18
          exact jt_out (e := 2) hX hE hc18 hs18 hl18 h
        · have k18 := hle18.at k1 (by simp)
          have hl18 := hl.tr hle18
          refine jj_goto hX dX8_table_21 168 (by decide) ?_
          exact txw8_table_B168 hX hY hE ih hl18 hc18 hs18 h
set_option maxHeartbeats 4000000 in
set_option maxRecDepth 100000 in
theorem mxw8_table (l : Launch) (hfl : l.stackTraces = false) (D : va_G) (dA aK aV : Nat → Nat) (x0 : Nat) (x1 : Nat) (K : XK) (u : XS) (mc ms : Nat) (Post : XK → XS → Prop) (PX : Nat → XK → XS → Prop) (h : xw8_table x0 x1 K u mc ms Post PX) (sz : Nat) : vx_Met l yX8_table (ws_ yX8_table cX8_table 2 (Option.none : Option Jvm.ClassFile.FieldType)) (jx_rm 7 157 mc ms) (jx_Pc D dA aK aV K u sz [.ref x0, .ref x1]) (va_Qv (fun w : XK × XS => Post w.1 w.2) (jx_BA D dA K sz) (AX K sz)) (jx_XC 2 PX D dA K sz (AX K sz)) mc ms (AX K sz) := by
  refine jx_startT hfl [.ref x0, .ref x1] [(0, .ref x0), (1, .ref x1)] (by decide) (Nat.le_of_ble_eq_true rfl) rfl (fun X hX hY hE => ?_)
  unfold xw8_table at h
  obtain ⟨n9, h⟩ := h
  exact txw8_table_L0 hX hY hE n9 _ _ _ _ XLe.rf (Nat.zero_le _) (Nat.zero_le _) h
theorem hd_xw8_table : yX8_table.cls ≠ "java/lang/invoke/MethodHandle" ∧ yX8_table.cls ≠ "java/lang/invoke/VarHandle" ∧ (parseMethodDescriptor yX8_table.desc).map (fun d => d.parameters.length) = some 1 := by decide +kernel
theorem kxw8_table {X : JC} {A : Nat → Prop} {Q : State → Prop} {nL k n pc : Nat} {lv : List (Nat × Value)} {st : List Value} {own : String} {cc : ByteArray} {ret : Option FieldType} {F LL mc ms ix mc2 ms2 : Nat} {D : va_G} {dA aK aV : Nat → Nat} {K : XK} {u : XS} {x0 : Nat} {x1 : Nat} {Post : XK → XS → Prop} {PX : Nat → XK → XS → Prop} (hX : JX X own cc nL ret F LL mc ms) (hY : JY X D dA aK aV A) (h1a : K x0 = (1, 8)) (hlk : (Cond.methodLink own ix yX8_table) ∈ lw_all) (hF : 7 + 1 ≤ F) (hL : 8 + (2 + 11) + 157 ≤ LL) (hk : k + mc2 ≤ mc) (hk2 : n + ms2 ≤ ms) (hw : (st.map fun v => v.category).sum ≤ 8) (d : decode cc pc = .ok (.invokevirtual ix, 3)) (q : Nat) (hq : pc + 3 = q) (h : xw8_table x0 x1 K u mc2 ms2 Post PX) (kx : ∀ (q9 : Nat) (K2 : XK) (u2 : XS), XLe K K2 → PX q9 K2 u2 → JT X A Q nL (XP D dA A K2 u2) (k + mc2) (n + ms2) pc lv (jx_en 2) q9) (kk : ∀ (K2 : XK) (u2 : XS), XLe K K2 → Post K2 u2 → JJ X A Q nL (XP D dA A K2 u2) (k + mc2) (n + ms2) q lv (st)) : JJ X A Q nL (XP D dA A K u) k n pc lv (.ref x1 :: .ref x0 :: st) :=
  jx_callTVv (na := 1) (As := [.ref x1]) hX hY jf8 h1a (fun sz => mxw8_table (jj_l X) hY.2.2.2.2 D dA aK aV x0 x1 K u mc2 ms2 Post PX h sz) hlk q684 q685 q136 q686 ⟨rfl, hd_xw8_table⟩ rfl rfl hw hF hL hk hk2 d q hq kx kk
/-- RaisedPress.press(I)I -/
def xw0_press (x0 : Nat) (x1 : Int32) (K : XK) (u : XS) (mc ms : Nat) (Post : Int32 → XK → XS → Prop) : Prop :=
  K x0 = (1, 0) ∧
  xw0_opens x0 x1 (900 : Int32) K u (fun r5 u5 =>
    (¬ r5 = 0 →
      1 ≤ mc ∧ 7 ≤ ms ∧ ∀ (b13 : Nat) (K13 : XK) (u13 : XS), (K b13).1 = 0 → K13 = xup K b13 (1, 5) → u13 = xz u5 b13 →
      ∃ m17 w17, (1 + m17) ≤ mc ∧ (7 + w17) ≤ ms ∧ xw5_init b13 K13 u13 m17 w17 (fun K17 u17 =>
        ((1 + m17) + 1) ≤ mc ∧ ((7 + w17) + 8) ≤ ms ∧ ∀ (b21 : Nat) (K21 : XK) (u21 : XS), (K17 b21).1 = 0 → K21 = xup K17 b21 (1, 8) → u21 = xz u17 b21 →
        xw8_init b21 x0 x1 K21 u21 (fun u27 =>
          ∃ m31 w31, (((1 + m17) + 1) + m31) ≤ mc ∧ (((7 + w17) + 8) + w31) ≤ ms ∧ xw8_table b21 b13 K21 u27 m31 w31 (fun K31 u31 =>
            ∃ b39, (xr u31 x0 10) = some b39 ∧
            K31 b39 = (1, 4) ∧
            ∀ u39 : XS, u39 = xsr u31 b39 0 (some b13) →
            ∃ b47, (xr u39 x0 10) = some b47 ∧
            K31 b47 = (1, 4) ∧
            ∀ u47 : XS, u47 = xsi u39 b47 1 (0 : Int32) →
            ∃ b55, (xr u47 x0 10) = some b55 ∧
            K31 b55 = (1, 4) ∧
            ∀ u55 : XS, u55 = xsr u47 b55 2 none →
            Post (xi u55 b13 1) K31 u55) (fun q31 K31 u31 =>
            xw0_faulty x0 q31 K31 u31 (fun r66 u66 =>
              Post r66 K31 u66))))) ∧
    (r5 = 0 →
      Post (-1 : Int32) K u5))
set_option maxHeartbeats 4000000 in
set_option maxRecDepth 100000 in
theorem mxw0_press (l : Launch) (hfl : l.stackTraces = false) (D : va_G) (dA aK aV : Nat → Nat) (x0 : Nat) (x1 : Int32) (K : XK) (u : XS) (mc ms : Nat) (Post : Int32 → XK → XS → Prop) (h : xw0_press x0 x1 K u mc ms Post) (sz : Nat) : Met l yX0_press (wsW_ yX0_press cX0_press 3 (Option.some Jvm.ClassFile.FieldType.int) [(13, 62, 63, 31)]) (jx_rm 8 178 mc ms) (jx_Pc D dA aK aV K u sz [.ref x0, .int x1]) (va_Qi (fun (r : Int32) (w : XK × XS) => Post r w.1 w.2) (jx_BA D dA K sz) (AX K sz)) mc ms (AX K sz) := by
  refine jx_startW hfl [.ref x0, .int x1] [(0, .ref x0), (1, .int x1)] (by decide) (Nat.le_of_ble_eq_true rfl) rfl (fun X hX hY hE => ?_)
  unfold xw0_press at h
  refine jj_aload_n hX dX0_press_0 0 rfl 1 rfl ?_
  refine jj_iload_n hX dX0_press_1 1 rfl 2 rfl ?_
  refine jj_sipush hX dX0_press_2 cs_900 5 rfl ?_
  obtain ⟨k5, h⟩ := h
  refine kxw0_opens hX hY k5 q625 (Nat.le_of_ble_eq_true rfl) (Nat.le_of_ble_eq_true rfl) (Nat.zero_le _) (Nat.zero_le _) (Nat.le_of_ble_eq_true rfl) dX0_press_5 8 rfl h (fun r5 u5 hb5 h => ?_)
  refine jj_if_ne hX dX0_press_8 13 11 (by decide) rfl (fun c8 => ?_) (fun c8 => ?_)
  · have h := h.1 c8
    obtain ⟨hc13, hs13, h⟩ := h
    refine jx_new hX hY jf5 jd5 q629 q266 q127 hc13 hs13 dX0_press_13 16 rfl (fun b13 K13 u13 hb13 eK13 e13 => ?_)
    have h := h b13 K13 u13 hb13 eK13 e13
    have hleb13 : XLe K K13 := by rw [eK13]; exact XLe.up hb13
    have k13 := hleb13.at k5 (by simp)
    have hl13 := XLe.rf.tr hleb13
    have k13_1 : K13 b13 = (1, 5) := by rw [eK13]; exact xup_at
    refine jj_cs (k2 := 1) (n2 := 7) rfl rfl ?_
    refine jj_dup hX dX0_press_16 rfl 17 rfl ?_
    obtain ⟨m17, w17, hc17, hs17, h⟩ := h
    refine knxw5_init hX hY nq630 (Nat.le_of_ble_eq_true rfl) (Nat.le_of_ble_eq_true rfl) hc17 hs17 (Nat.le_of_ble_eq_true rfl) dX0_press_17 20 rfl h (fun K17 u17 hle17 h => ?_)
    have k17 := hle17.at k13 (by simp)
    have k17_1 := hle17.at k13_1 (by simp)
    have hl17 := hl13.tr hle17
    refine jj_cs (k2 := (1 + m17)) (n2 := (7 + w17)) (by simp) (by simp) ?_
    refine jj_astore_n (lv2 := [(0, .ref x0), (1, .int x1), (2, .ref b13)]) hX dX0_press_20 (Nat.le_of_ble_eq_true rfl) [1, 2, 0] rfl 21 rfl ?_
    obtain ⟨hc21, hs21, h⟩ := h
    refine jx_new hX hY jf8 jd8 q631 q632 q136 hc21 hs21 dX0_press_21 24 rfl (fun b21 K21 u21 hb21 eK21 e21 => ?_)
    have h := h b21 K21 u21 hb21 eK21 e21
    have hleb21 : XLe K17 K21 := by rw [eK21]; exact XLe.up hb21
    have k21 := hleb21.at k17 (by simp)
    have k21_1 := hleb21.at k17_1 (by simp)
    have hl21 := hl17.tr hleb21
    have k21_2 : K21 b21 = (1, 8) := by rw [eK21]; exact xup_at
    refine jj_cs (k2 := ((1 + m17) + 1)) (n2 := ((7 + w17) + 8)) rfl rfl ?_
    refine jj_dup hX dX0_press_24 rfl 25 rfl ?_
    refine jj_aload_n hX dX0_press_25 0 rfl 26 rfl ?_
    refine jj_iload_n hX dX0_press_26 1 rfl 27 rfl ?_
    refine kxw8_init hX hY q633 (Nat.le_of_ble_eq_true rfl) (Nat.le_of_ble_eq_true rfl) hc21 hs21 (Nat.le_of_ble_eq_true rfl) dX0_press_27 30 rfl h (fun u27 h => ?_)
    refine jj_aload_n hX dX0_press_30 2 rfl 31 rfl ?_
    obtain ⟨m31, w31, hc31, hs31, h⟩ := h
    refine kxw8_table hX hY k21_2 q683 (Nat.le_of_ble_eq_true rfl) (Nat.le_of_ble_eq_true rfl) hc31 hs31 (Nat.le_of_ble_eq_true rfl) dX0_press_31 34 rfl h (fun q31 K31 u31 hle31 h => jt_cs (k2 := (((1 + m17) + 1) + m31)) (n2 := (((7 + w17) + 8) + w31)) (by simp) (by simp) ?_) (fun K31 u31 hle31 h => jj_cs (k2 := (((1 + m17) + 1) + m31)) (n2 := (((7 + w17) + 8) + w31)) (by simp) (by simp) ?_)
    · have k31 := hle31.at k21 (by simp)
      have k31_1 := hle31.at k21_1 (by simp)
      have k31_2 := hle31.at k21_2 (by simp)
      have hl31 := hl21.tr hle31
      refine jt_catch0 (nm := "RaisedPress$Bad") hX hY.2.1 hE rfl (by decide) q169 nq171 ?_
      refine jj_astore_n (lv2 := [(0, .ref x0), (2, .ref q31)]) hX dX0_press_63 (Nat.le_of_ble_eq_true rfl) [1, 0] rfl 64 rfl ?_
      refine jj_aload_n hX dX0_press_64 0 rfl 65 rfl ?_
      refine jj_aload_n hX dX0_press_65 1 rfl 66 rfl ?_
      refine kxw0_faulty hX hY k31 q867 (Nat.le_of_ble_eq_true rfl) (Nat.le_of_ble_eq_true rfl) hc31 hs31 (Nat.le_of_ble_eq_true rfl) dX0_press_66 69 rfl h (fun r66 u66 h => ?_)
      exact jj_reti (post := (fun (r : Int32) (w : XK × XS) => Post r w.1 w.2)) (u := (K31, u66)) hX dX0_press_69 hc31 hs31 (jx_hBA hl31) h
    · have k31 := hle31.at k21 (by simp)
      have k31_1 := hle31.at k21_1 (by simp)
      have k31_2 := hle31.at k21_2 (by simp)
      have hl31 := hl21.tr hle31
      refine jj_aload_n hX dX0_press_34 0 rfl 35 rfl ?_
      refine xg0_10 hX hY k31 dX0_press_35 q421 38 rfl ?_
      refine jj_aload_n hX dX0_press_38 2 rfl 39 rfl ?_
      obtain ⟨b39, g39, h⟩ := h
      refine jj_st (st2 := [.ref b13, .ref b39]) (by rw [va_rf_some g39]) ?_
      obtain ⟨k39, h⟩ := h
      refine xpn4_0 (v := (some b13)) hX hY k39 dX0_press_39 nq315 42 rfl (fun u39 e39 => ?_)
      have h := h u39 e39
      refine jj_aload_n hX dX0_press_42 0 rfl 43 rfl ?_
      refine xg0_10 hX hY k31 dX0_press_43 q421 46 rfl ?_
      refine jj_iconst hX dX0_press_46 ci_0 47 rfl ?_
      obtain ⟨b47, g47, h⟩ := h
      refine jj_st (st2 := [.int (0 : Int32), .ref b47]) (by rw [va_rf_some g47]) ?_
      obtain ⟨k47, h⟩ := h
      refine xpn4_1 hX hY k47 dX0_press_47 nq317 50 rfl (fun u47 e47 => ?_)
      have h := h u47 e47
      refine jj_aload_n hX dX0_press_50 0 rfl 51 rfl ?_
      refine xg0_10 hX hY k31 dX0_press_51 q421 54 rfl ?_
      refine jj_null hX dX0_press_54 55 rfl ?_
      obtain ⟨b55, g55, h⟩ := h
      refine jj_st (st2 := [va_rf none, .ref b55]) (by rw [va_rf_some g55]) ?_
      obtain ⟨k55, h⟩ := h
      refine xpn4_2 (v := none) hX hY k55 dX0_press_55 nq319 58 rfl (fun u55 e55 => ?_)
      have h := h u55 e55
      refine jj_aload_n hX dX0_press_58 2 rfl 59 rfl ?_
      refine xgn5_1 hX hY k31_1 dX0_press_59 nq279 62 rfl ?_
      exact jj_reti (post := (fun (r : Int32) (w : XK × XS) => Post r w.1 w.2)) (u := (K31, u55)) hX dX0_press_62 hc31 hs31 (jx_hBA hl31) h
  · have h := h.2 c8
    refine jj_iconst hX dX0_press_11 ci_m1 12 rfl ?_
    exact jj_reti (post := (fun (r : Int32) (w : XK × XS) => Post r w.1 w.2)) (u := (K, u5)) hX dX0_press_12 (Nat.zero_le _) (Nat.zero_le _) (jx_hBA XLe.rf) h
theorem hd_xw0_press : yX0_press.cls ≠ "java/lang/invoke/MethodHandle" ∧ yX0_press.cls ≠ "java/lang/invoke/VarHandle" ∧ (parseMethodDescriptor yX0_press.desc).map (fun d => d.parameters.length) = some 1 := by decide +kernel
theorem kxw0_press {X : JC} {A : Nat → Prop} {Q : State → Prop} {nL k n pc : Nat} {lv : List (Nat × Value)} {st : List Value} {own : String} {cc : ByteArray} {ret : Option FieldType} {F LL mc ms ix mc2 ms2 : Nat} {D : va_G} {dA aK aV : Nat → Nat} {K : XK} {u : XS} {x0 : Nat} {x1 : Int32} {Post : Int32 → XK → XS → Prop} (hX : JX X own cc nL ret F LL mc ms) (hY : JY X D dA aK aV A) (h1a : K x0 = (1, 0)) (hlk : (Cond.methodLink own ix yX0_press) ∈ lw_all) (hF : 8 + 1 ≤ F) (hL : 8 + (3 + 11) + 178 ≤ LL) (hk : k + mc2 ≤ mc) (hk2 : n + ms2 ≤ ms) (hw : (st.map fun v => v.category).sum ≤ 8) (d : decode cc pc = .ok (.invokevirtual ix, 3)) (q : Nat) (hq : pc + 3 = q) (h : xw0_press x0 x1 K u mc2 ms2 Post) (kk : ∀ (r : Int32) (K2 : XK) (u2 : XS), XLe K K2 → Post r K2 u2 → JJ X A Q nL (XP D dA A K2 u2) (k + mc2) (n + ms2) q lv (.int r :: st)) : JJ X A Q nL (XP D dA A K u) k n pc lv (.int x1 :: .ref x0 :: st) :=
  jx_callWVi (na := 1) (As := [.int x1]) hX hY jf0 h1a (fun sz => mxw0_press (jj_l X) hY.2.2.2.2 D dA aK aV x0 x1 K u mc2 ms2 Post h sz) hlk q622 q623 q120 q624 ⟨rfl, hd_xw0_press⟩ rfl rfl hw hF hL hk hk2 d q hq kk
