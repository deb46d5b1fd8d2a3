set_option linter.unusedVariables false
def xw0_lacks_L20_S (G9 : Int32 → Int32 → XS → Prop) (Post : Int32 → XS → Prop) (K : XK) (x0 : Nat) (x1 : Int32) (x2 : Int32) (R : Int32 → Int32 → XS → Prop) (x3 : Int32) (x4 : Int32) (u : XS) : Prop :=
  K x0 = (1, 0) ∧
  xw0_table x0 K u (fun r23 u23 =>
    K r23 = (1, 5) ∧
    ((xi u23 r23 1) ≤ x4 →
      (x3 = 0 →
        ∀ v86 : Int32, v86 = (x1 ||| ((1 : Int32) <<< (x2 &&& 31))) →
        ∀ v87 : Int32, v87 = x2 + (1 : Int32) →
        G9 v86 v87 u23) ∧
      (¬ x3 = 0 →
        ∀ v86 : Int32, v86 = (x1 ||| (0 : Int32)) →
        ∀ v87 : Int32, v87 = x2 + (1 : Int32) →
        G9 v86 v87 u23)) ∧
    (¬ (xi u23 r23 1) ≤ x4 →
      (¬ x3 = 0 →
        ∀ v67 : Int32, v67 = x4 + (1 : Int32) →
        R (1 : Int32) v67 u23) ∧
      (x3 = 0 →
        xw0_isThere x0 x4 K u23 (fun r39 u39 =>
          (r39 = 0 →
            ∀ v67 : Int32, v67 = x4 + (1 : Int32) →
            R (0 : Int32) v67 u39) ∧
          (¬ r39 = 0 →
            xw0_at x0 x4 K u39 (fun r48 u48 =>
              xRule K r48 ∧
              xw9_isJust r48 ((97 : Int32) + x2) K u48 (fun r55 u55 =>
                (r55 = 0 →
                  ∀ v67 : Int32, v67 = x4 + (1 : Int32) →
                  R (0 : Int32) v67 u55) ∧
                (¬ r55 = 0 →
                  ∀ v67 : Int32, v67 = x4 + (1 : Int32) →
                  R (1 : Int32) v67 u55))))))))
def xw0_lacks_L20 (G9 : Int32 → Int32 → XS → Prop) (Post : Int32 → XS → Prop) (K : XK) (x0 : Nat) (x1 : Int32) (x2 : Int32) : Nat → Int32 → Int32 → XS → Prop
  | 0 => fun _ _ _ => False
  | n + 1 => fun x3 x4 u => xw0_lacks_L20_S G9 Post K x0 x1 x2 (xw0_lacks_L20 G9 Post K x0 x1 x2 n) x3 x4 u
def xw0_lacks_L9_S (Post : Int32 → XS → Prop) (K : XK) (x0 : Nat) (R : Int32 → Int32 → XS → Prop) (x1 : Int32) (x2 : Int32) (u : XS) : Prop :=
  ((26 : Int32) ≤ x2 →
    Post x1 u) ∧
  (¬ (26 : Int32) ≤ x2 →
    ∃ n, xw0_lacks_L20 R Post K x0 x1 x2 n (0 : Int32) (0 : Int32) u)
def xw0_lacks_L9 (Post : Int32 → XS → Prop) (K : XK) (x0 : Nat) : Nat → Int32 → Int32 → XS → Prop
  | 0 => fun _ _ _ => False
  | n + 1 => fun x1 x2 u => xw0_lacks_L9_S Post K x0 (xw0_lacks_L9 Post K x0 n) x1 x2 u
/-- RaisedPress.lacks()I -/
def xw0_lacks (x0 : Nat) (K : XK) (u : XS) (Post : Int32 → XS → Prop) : Prop :=
  K x0 = (1, 0) ∧
  ∀ u2 : XS, u2 = xsi u x0 7 (0 : Int32) →
  ∃ n, xw0_lacks_L9 Post K x0 n (0 : Int32) (0 : Int32) u2
set_option maxHeartbeats 4000000 in
set_option maxRecDepth 100000 in
theorem txw0_lacks_L20 {X : JC} {D : va_G} {dA aK aV : Nat → Nat} {sz : Nat} {K : XK} {G9 : Int32 → Int32 → XS → Prop} {Post : Int32 → XS → Prop} {x0 : Nat} {x1 : Int32} {x2 : Int32} (hX : JX X yX0_lacks.cls cX0_lacks 5 (Option.some Jvm.ClassFile.FieldType.int) 2 41 0 0) (hY : JY X D dA aK aV (AX K sz)) (hG9 : ∀ (y1 : Int32) (y2 : Int32) (u : XS), G9 y1 y2 u → JJ X (AX K sz) (jj_Q X (va_Qi (fun (r : Int32) (w : XS) => Post r w) (jx_B D dA K) (AX K sz)) 0 0 (AX K sz)) 5 (XP D dA (AX K sz) K u) 0 0 9 [(0, .ref x0), (1, .int y1), (2, .int y2)] []) : ∀ (n : Nat) (x3 : Int32) (x4 : Int32) (u : XS), xw0_lacks_L20 G9 Post K x0 x1 x2 n x3 x4 u → JJ X (AX K sz) (jj_Q X (va_Qi (fun (r : Int32) (w : XS) => Post r w) (jx_B D dA K) (AX K sz)) 0 0 (AX K sz)) 5 (XP D dA (AX K sz) K u) 0 0 20 [(0, .ref x0), (1, .int x1), (2, .int x2), (3, .int x3), (4, .int x4)] [] := by
  intro n
  induction n with
  | zero =>
    intro x3 x4 u h
    exact h.elim
  | succ n ih =>
    intro x3 x4 u h
    have h : xw0_lacks_L20_S G9 Post K x0 x1 x2 (xw0_lacks_L20 G9 Post K x0 x1 x2 n) x3 x4 u := h
    unfold xw0_lacks_L20_S at h
    refine jj_iload hX dX0_lacks_20 4 rfl 22 rfl ?_
    refine jj_aload_n hX dX0_lacks_22 0 rfl 23 rfl ?_
    obtain ⟨k23, h⟩ := h
    refine kxw0_table hX hY k23 q879 (Nat.le_of_ble_eq_true rfl) (Nat.le_of_ble_eq_true rfl) (Nat.zero_le _) (Nat.zero_le _) (Nat.le_of_ble_eq_true rfl) dX0_lacks_23 26 rfl h (fun r23 u23 h => ?_)
    obtain ⟨k26, h⟩ := h
    refine xgn5_1 hX hY k26 dX0_lacks_26 nq279 29 rfl ?_
    refine jj_icmp_ge hX dX0_lacks_29 73 32 (by decide) rfl (fun c29 => ?_) (fun c29 => ?_)
    · have h := h.1 c29
      refine jj_iload_n hX dX0_lacks_73 1 rfl 74 rfl ?_
      refine jj_iload_n hX dX0_lacks_74 3 rfl 75 rfl ?_
      refine jj_if_eq hX dX0_lacks_75 82 78 (by decide) rfl (fun c75 => ?_) (fun c75 => ?_)
      · have h := h.1 c75
        refine jj_iconst hX dX0_lacks_82 ci_1 83 rfl ?_
        refine jj_iload_n hX dX0_lacks_83 2 rfl 84 rfl ?_
        refine jj_ishl hX dX0_lacks_84 85 rfl ?_
        refine jj_ior hX dX0_lacks_85 86 rfl ?_
        refine jj_topi (fun v86 e86 => ?_)
        have h := h v86 e86
        refine jj_istore_n (lv2 := [(0, .ref x0), (1, .int v86), (2, .int x2)]) hX dX0_lacks_86 (Nat.le_of_ble_eq_true rfl) [1, 0, 2] rfl 87 rfl ?_
        obtain ⟨v87, e87⟩ : ∃ y : Int32, y = x2 + (1 : Int32) := ⟨_, rfl⟩
        have h := h v87 e87
        refine jj_iinc (v := v87) (lv2 := [(0, .ref x0), (1, .int v86), (2, .int v87)]) hX dX0_lacks_87 2 rfl (by rw [e87, ci_1]) (Nat.le_of_ble_eq_true rfl) [1, 2, 0] rfl 90 rfl ?_
        refine jj_goto hX dX0_lacks_90 9 (by decide) ?_
        exact hG9 _ _ _ h
      · have h := h.2 c75
        refine jj_iconst hX dX0_lacks_78 ci_0 79 rfl ?_
        refine jj_goto hX dX0_lacks_79 85 (by decide) ?_
        refine jj_ior hX dX0_lacks_85 86 rfl ?_
        refine jj_topi (fun v86 e86 => ?_)
        have h := h v86 e86
        refine jj_istore_n (lv2 := [(0, .ref x0), (1, .int v86), (2, .int x2)]) hX dX0_lacks_86 (Nat.le_of_ble_eq_true rfl) [1, 0, 2] rfl 87 rfl ?_
        obtain ⟨v87, e87⟩ : ∃ y : Int32, y = x2 + (1 : Int32) := ⟨_, rfl⟩
        have h := h v87 e87
        refine jj_iinc (v := v87) (lv2 := [(0, .ref x0), (1, .int v86), (2, .int v87)]) hX dX0_lacks_87 2 rfl (by rw [e87, ci_1]) (Nat.le_of_ble_eq_true rfl) [1, 2, 0] rfl 90 rfl ?_
        refine jj_goto hX dX0_lacks_90 9 (by decide) ?_
        exact hG9 _ _ _ h
    · have h := h.2 c29
      refine jj_iload_n hX dX0_lacks_32 3 rfl 33 rfl ?_
      refine jj_if_ne hX dX0_lacks_33 61 36 (by decide) rfl (fun c33 => ?_) (fun c33 => ?_)
      · have h := h.1 c33
        refine jj_iconst hX dX0_lacks_61 ci_1 62 rfl ?_
        refine jj_goto hX dX0_lacks_62 66 (by decide) ?_
        refine jj_istore_n (lv2 := [(0, .ref x0), (1, .int x1), (2, .int x2), (3, .int (1 : Int32)), (4, .int x4)]) hX dX0_lacks_66 (Nat.le_of_ble_eq_true rfl) [1, 2, 3, 0, 4] rfl 67 rfl ?_
        obtain ⟨v67, e67⟩ : ∃ y : Int32, y = x4 + (1 : Int32) := ⟨_, rfl⟩
        have h := h v67 e67
        refine jj_iinc (v := v67) (lv2 := [(0, .ref x0), (1, .int x1), (2, .int x2), (3, .int (1 : Int32)), (4, .int v67)]) hX dX0_lacks_67 4 rfl (by rw [e67, ci_1]) (Nat.le_of_ble_eq_true rfl) [1, 2, 3, 4, 0] rfl 70 rfl ?_
        refine jj_goto hX dX0_lacks_70 20 (by decide) ?_
        exact ih _ _ _ h
      · have h := h.2 c33
        refine jj_aload_n hX dX0_lacks_36 0 rfl 37 rfl ?_
        refine jj_iload hX dX0_lacks_37 4 rfl 39 rfl ?_
        refine kxw0_isThere hX hY k23 q1173 (Nat.le_of_ble_eq_true rfl) (Nat.le_of_ble_eq_true rfl) (Nat.zero_le _) (Nat.zero_le _) (Nat.le_of_ble_eq_true rfl) dX0_lacks_39 42 rfl h (fun r39 u39 hb39 h => ?_)
        refine jj_if_eq hX dX0_lacks_42 65 45 (by decide) rfl (fun c42 => ?_) (fun c42 => ?_)
        · have h := h.1 c42
          refine jj_iconst hX dX0_lacks_65 ci_0 66 rfl ?_
          refine jj_istore_n (lv2 := [(0, .ref x0), (1, .int x1), (2, .int x2), (3, .int (0 : Int32)), (4, .int x4)]) hX dX0_lacks_66 (Nat.le_of_ble_eq_true rfl) [1, 2, 3, 0, 4] rfl 67 rfl ?_
          obtain ⟨v67, e67⟩ : ∃ y : Int32, y = x4 + (1 : Int32) := ⟨_, rfl⟩
          have h := h v67 e67
          refine jj_iinc (v := v67) (lv2 := [(0, .ref x0), (1, .int x1), (2, .int x2), (3, .int (0 : Int32)), (4, .int v67)]) hX dX0_lacks_67 4 rfl (by rw [e67, ci_1]) (Nat.le_of_ble_eq_true rfl) [1, 2, 3, 4, 0] rfl 70 rfl ?_
          refine jj_goto hX dX0_lacks_70 20 (by decide) ?_
          exact ih _ _ _ h
        · have h := h.2 c42
          refine jj_aload_n hX dX0_lacks_45 0 rfl 46 rfl ?_
          refine jj_iload hX dX0_lacks_46 4 rfl 48 rfl ?_
          refine kxw0_at hX hY k23 q1090 (Nat.le_of_ble_eq_true rfl) (Nat.le_of_ble_eq_true rfl) (Nat.zero_le _) (Nat.zero_le _) (Nat.le_of_ble_eq_true rfl) dX0_lacks_48 51 rfl h (fun r48 u48 h => ?_)
          refine jj_bipush hX dX0_lacks_51 cb_97 53 rfl ?_
          refine jj_iload_n hX dX0_lacks_53 2 rfl 54 rfl ?_
          refine jj_iadd hX dX0_lacks_54 55 rfl ?_
          obtain ⟨k55, h⟩ := h
          refine kxw9_isJust hX hY k55 q1432 (Nat.le_of_ble_eq_true rfl) (Nat.le_of_ble_eq_true rfl) (Nat.zero_le _) (Nat.zero_le _) (Nat.le_of_ble_eq_true rfl) dX0_lacks_55 58 rfl h (fun r55 u55 hb55 h => ?_)
          refine jj_if_eq hX dX0_lacks_58 65 61 (by decide) rfl (fun c58 => ?_) (fun c58 => ?_)
          · have h := h.1 c58
            refine jj_iconst hX dX0_lacks_65 ci_0 66 rfl ?_
            refine jj_istore_n (lv2 := [(0, .ref x0), (1, .int x1), (2, .int x2), (3, .int (0 : Int32)), (4, .int x4)]) hX dX0_lacks_66 (Nat.le_of_ble_eq_true rfl) [1, 2, 3, 0, 4] rfl 67 rfl ?_
            obtain ⟨v67, e67⟩ : ∃ y : Int32, y = x4 + (1 : Int32) := ⟨_, rfl⟩
            have h := h v67 e67
            refine jj_iinc (v := v67) (lv2 := [(0, .ref x0), (1, .int x1), (2, .int x2), (3, .int (0 : Int32)), (4, .int v67)]) hX dX0_lacks_67 4 rfl (by rw [e67, ci_1]) (Nat.le_of_ble_eq_true rfl) [1, 2, 3, 4, 0] rfl 70 rfl ?_
            refine jj_goto hX dX0_lacks_70 20 (by decide) ?_
            exact ih _ _ _ h
          · have h := h.2 c58
            refine jj_iconst hX dX0_lacks_61 ci_1 62 rfl ?_
            refine jj_goto hX dX0_lacks_62 66 (by decide) ?_
            refine jj_istore_n (lv2 := [(0, .ref x0), (1, .int x1), (2, .int x2), (3, .int (1 : Int32)), (4, .int x4)]) hX dX0_lacks_66 (Nat.le_of_ble_eq_true rfl) [1, 2, 3, 0, 4] rfl 67 rfl ?_
            obtain ⟨v67, e67⟩ : ∃ y : Int32, y = x4 + (1 : Int32) := ⟨_, rfl⟩
            have h := h v67 e67
            refine jj_iinc (v := v67) (lv2 := [(0, .ref x0), (1, .int x1), (2, .int x2), (3, .int (1 : Int32)), (4, .int v67)]) hX dX0_lacks_67 4 rfl (by rw [e67, ci_1]) (Nat.le_of_ble_eq_true rfl) [1, 2, 3, 4, 0] rfl 70 rfl ?_
            refine jj_goto hX dX0_lacks_70 20 (by decide) ?_
            exact ih _ _ _ h
set_option maxHeartbeats 4000000 in
set_option maxRecDepth 100000 in
theorem txw0_lacks_L9 {X : JC} {D : va_G} {dA aK aV : Nat → Nat} {sz : Nat} {K : XK} {Post : Int32 → XS → Prop} {x0 : Nat} (hX : JX X yX0_lacks.cls cX0_lacks 5 (Option.some Jvm.ClassFile.FieldType.int) 2 41 0 0) (hY : JY X D dA aK aV (AX K sz)) : ∀ (n : Nat) (x1 : Int32) (x2 : Int32) (u : XS), xw0_lacks_L9 Post K x0 n x1 x2 u → JJ X (AX K sz) (jj_Q X (va_Qi (fun (r : Int32) (w : XS) => Post r w) (jx_B D dA K) (AX K sz)) 0 0 (AX K sz)) 5 (XP D dA (AX K sz) K u) 0 0 9 [(0, .ref x0), (1, .int x1), (2, .int x2)] [] := by
  intro n
  induction n with
  | zero =>
    intro x1 x2 u h
    exact h.elim
  | succ n ih =>
    intro x1 x2 u h
    have h : xw0_lacks_L9_S Post K x0 (xw0_lacks_L9 Post K x0 n) x1 x2 u := h
    unfold xw0_lacks_L9_S at h
    refine jj_iload_n hX dX0_lacks_9 2 rfl 10 rfl ?_
    refine jj_bipush hX dX0_lacks_10 cb_26 12 rfl ?_
    refine jj_icmp_ge hX dX0_lacks_12 93 15 (by decide) rfl (fun c12 => ?_) (fun c12 => ?_)
    · have h := h.1 c12
      refine jj_iload_n hX dX0_lacks_93 1 rfl 94 rfl ?_
      exact jj_reti (post := (fun (r : Int32) (w : XS) => Post r w)) (u := u) hX dX0_lacks_94 (Nat.le_refl 0) (Nat.le_refl 0) jx_hB h
    · have h := h.2 c12
      refine jj_iconst hX dX0_lacks_15 ci_0 16 rfl ?_
      refine jj_istore_n (lv2 := [(0, .ref x0), (1, .int x1), (2, .int x2), (3, .int (0 : Int32))]) hX dX0_lacks_16 (Nat.le_of_ble_eq_true rfl) [1, 2, 3, 0] rfl 17 rfl ?_
      refine jj_iconst hX dX0_lacks_17 ci_0 18 rfl ?_
      refine jj_istore (lv2 := [(0, .ref x0), (1, .int x1), (2, .int x2), (3, .int (0 : Int32)), (4, .int (0 : Int32))]) hX dX0_lacks_18 (Nat.le_of_ble_eq_true rfl) [1, 2, 3, 4, 0] rfl 20 rfl ?_
      obtain ⟨n9, h⟩ := h
      exact txw0_lacks_L20 hX hY ih n9 _ _ _ h
set_option maxHeartbeats 4000000 in
set_option maxRecDepth 100000 in
theorem mxw0_lacks (l : Launch) (hfl : l.stackTraces = false) (D : va_G) (dA aK aV : Nat → Nat) (x0 : Nat) (K : XK) (u : XS) (Post : Int32 → XS → Prop) (h : xw0_lacks x0 K u Post) (sz : Nat) : Met l yX0_lacks (ws_ yX0_lacks cX0_lacks 5 (Option.some Jvm.ClassFile.FieldType.int)) (jx_rm 2 41 0 0) (jx_Pc D dA aK aV K u sz [.ref x0]) (va_Qi (fun (r : Int32) (w : XS) => Post r w) (jx_B D dA K) (AX K sz)) 0 0 (AX K sz) := by
  refine jx_start hfl [.ref x0] [(0, .ref x0)] (by decide) (Nat.le_of_ble_eq_true rfl) rfl (fun X hX hY hin => ?_)
  unfold xw0_lacks at h
  refine jj_aload_n hX dX0_lacks_0 0 rfl 1 rfl ?_
  refine jj_iconst hX dX0_lacks_1 ci_0 2 rfl ?_
  obtain ⟨k2, h⟩ := h
  refine xp0_7 hX hY k2 dX0_lacks_2 q418 5 rfl (fun u2 e2 => ?_)
  have h := h u2 e2
  refine jj_iconst hX dX0_lacks_5 ci_0 6 rfl ?_
  refine jj_istore_n (lv2 := [(0, .ref x0), (1, .int (0 : Int32))]) hX dX0_lacks_6 (Nat.le_of_ble_eq_true rfl) [1, 0] rfl 7 rfl ?_
  refine jj_iconst hX dX0_lacks_7 ci_0 8 rfl ?_
  refine jj_istore_n (lv2 := [(0, .ref x0), (1, .int (0 : Int32)), (2, .int (0 : Int32))]) hX dX0_lacks_8 (Nat.le_of_ble_eq_true rfl) [1, 2, 0] rfl 9 rfl ?_
  obtain ⟨n9, h⟩ := h
  exact txw0_lacks_L9 hX hY n9 _ _ _ h
theorem hd_xw0_lacks : yX0_lacks.cls ≠ "java/lang/invoke/MethodHandle" ∧ yX0_lacks.cls ≠ "java/lang/invoke/VarHandle" ∧ (parseMethodDescriptor yX0_lacks.desc).map (fun d => d.parameters.length) = some 0 := by decide +kernel
theorem kxw0_lacks {X : JC} {A : Nat → Prop} {Q : State → Prop} {nL k n pc : Nat} {lv : List (Nat × Value)} {st : List Value} {own : String} {cc : ByteArray} {ret : Option FieldType} {F LL mc ms ix : Nat} {D : va_G} {dA aK aV : Nat → Nat} {K : XK} {u : XS} {x0 : Nat} {Post : Int32 → XS → Prop} (hX : JX X own cc nL ret F LL mc ms) (hY : JY X D dA aK aV A) (h1a : K x0 = (1, 0)) (hlk : (Cond.methodLink own ix yX0_lacks) ∈ lw_all) (hF : 2 + 1 ≤ F) (hL : 8 + (5 + 11) + 41 ≤ LL) (hk : k ≤ mc) (hk2 : n ≤ ms) (hw : (st.map fun v => v.category).sum ≤ 8) (d : decode cc pc = .ok (.invokevirtual ix, 3)) (q : Nat) (hq : pc + 3 = q) (h : xw0_lacks x0 K u  Post) (kk : ∀ (r : Int32) (u2 : XS), Post r u2 → JJ X A Q nL (XP D dA A K u2) k n q lv (.int r :: st)) : JJ X A Q nL (XP D dA A K u) k n pc lv (.ref x0 :: st) :=
  jx_callVi (na := 0) (As := []) hX hY jf0 h1a (fun sz => mxw0_lacks (jj_l X) hY.2.2.2.2 D dA aK aV x0 K u  Post h sz) hlk q1429 q1430 q120 q1431 ⟨rfl, hd_xw0_lacks⟩ rfl rfl hw hF hL hk hk2 d q hq kk
theorem knxw0_lacks {X : JC} {A : Nat → Prop} {Q : State → Prop} {nL k n pc : Nat} {lv : List (Nat × Value)} {st : List Value} {own : String} {cc : ByteArray} {ret : Option FieldType} {F LL mc ms ix : Nat} {D : va_G} {dA aK aV : Nat → Nat} {K : XK} {u : XS} {x0 : Nat} {host : String} {Post : Int32 → XS → Prop} (hX : JX X own cc nL ret F LL mc ms) (hY : JY X D dA aK aV A) (h1a : K x0 = (1, 0)) (hlk : (Cond.methodLinkNest own ix yX0_lacks host) ∈ jx_nest) (hF : 2 + 1 ≤ F) (hL : 8 + (5 + 11) + 41 ≤ LL) (hk : k ≤ mc) (hk2 : n ≤ ms) (hw : (st.map fun v => v.category).sum ≤ 8) (d : decode cc pc = .ok (.invokevirtual ix, 3)) (q : Nat) (hq : pc + 3 = q) (h : xw0_lacks x0 K u  Post) (kk : ∀ (r : Int32) (u2 : XS), Post r u2 → JJ X A Q nL (XP D dA A K u2) k n q lv (.int r :: st)) : JJ X A Q nL (XP D dA A K u) k n pc lv (.ref x0 :: st) :=
  jx_callNi (na := 0) (As := []) hX hY jf0 h1a (fun sz => mxw0_lacks (jj_l X) hY.2.2.2.2 D dA aK aV x0 K u  Post h sz) hlk q1429 q1430 q120 q1431 hd_xw0_lacks rfl rfl hw hF hL hk hk2 d q hq kk
def xw0_wears_L47_S (G8 : Int32 → Int32 → Int32 → XS → Prop) (Post : Int32 → XS → Prop) (K : XK) (x0 : Nat) (x2 : Int32) (x5 : Int32) (R : Int32 → Int32 → Int32 → XS → Prop) (x3 : Int32) (x4 : Int32) (x6 : Int32) (u : XS) : Prop :=
  ((6 : Int32) ≤ x6 →
    ∀ v131 : Int32, v131 = x5 + (1 : Int32) →
    G8 x3 x4 v131 u) ∧
  (¬ (6 : Int32) ≤ x6 →
    K x0 = (1, 0) ∧
    ∃ b58, (xr u x0 10) = some b58 ∧
    K b58 = (1, 4) ∧
    ∃ b61, (xr u b58 2) = some b61 ∧
    K b61 = (1, 15) ∧
    ∃ b66, (xr u b61 1) = some b66 ∧
    ∃ n66, K b66 = (2, n66) ∧
    vp_in x5 n66 ∧
    (¬ (((xi u b66 x5.toNatClampNeg) >>> (x6 &&& 31)) &&& (1 : Int32)) = 0 →
      ∀ v91 : Int32, v91 = (((x3 * (2801 : Int32)) + (10163 : Int32)) - ((x3 * (2801 : Int32)) + (10163 : Int32)) / (65536 : Int32) * (65536 : Int32)) →
      (((v91 / (8 : Int32)) - (v91 / (8 : Int32)) / (16 : Int32) * (16 : Int32)) < x2 →
        ∃ b112, (xr u x0 24) = some b112 ∧
        ∃ n113, K b112 = (2, n113) ∧
        vp_in x5 n113 ∧
        vp_in x5 n113 ∧
        ∀ u121 : XS, u121 = xsi u b112 x5.toNatClampNeg ((xi u b112 x5.toNatClampNeg) &&& (((1 : Int32) <<< (x6 &&& 31)) ^^^ (-1 : Int32))) →
        ∀ v122 : Int32, v122 = x4 + (1 : Int32) →
        ∀ v125 : Int32, v125 = x6 + (1 : Int32) →
        R v91 v122 v125 u121) ∧
      (¬ ((v91 / (8 : Int32)) - (v91 / (8 : Int32)) / (16 : Int32) * (16 : Int32)) < x2 →
        ∀ v125 : Int32, v125 = x6 + (1 : Int32) →
        R v91 x4 v125 u)) ∧
    ((((xi u b66 x5.toNatClampNeg) >>> (x6 &&& 31)) &&& (1 : Int32)) = 0 →
      ∀ v125 : Int32, v125 = x6 + (1 : Int32) →
      R x3 x4 v125 u))
def xw0_wears_L47 (G8 : Int32 → Int32 → Int32 → XS → Prop) (Post : Int32 → XS → Prop) (K : XK) (x0 : Nat) (x2 : Int32) (x5 : Int32) : Nat → Int32 → Int32 → Int32 → XS → Prop
  | 0 => fun _ _ _ _ => False
  | n + 1 => fun x3 x4 x6 u => xw0_wears_L47_S G8 Post K x0 x2 x5 (xw0_wears_L47 G8 Post K x0 x2 x5 n) x3 x4 x6 u
def xw0_wears_L8_S (Post : Int32 → XS → Prop) (K : XK) (x0 : Nat) (x2 : Int32) (R : Int32 → Int32 → Int32 → XS → Prop) (x3 : Int32) (x4 : Int32) (x5 : Int32) (u : XS) : Prop :=
  K x0 = (1, 0) ∧
  ∃ b14, (xr u x0 10) = some b14 ∧
  K b14 = (1, 4) ∧
  ∃ b17, (xr u b14 2) = some b17 ∧
  K b17 = (1, 15) ∧
  ∃ b20, (xr u b17 1) = some b20 ∧
  ∃ n20, K b20 = (2, n20) ∧
  ((nI n20) ≤ x5 →
    Post x4 u) ∧
  (¬ (nI n20) ≤ x5 →
    ∃ b34, (xr u x0 10) = some b34 ∧
    K b34 = (1, 4) ∧
    ∃ b37, (xr u b34 2) = some b37 ∧
    K b37 = (1, 15) ∧
    ∃ b42, (xr u b37 1) = some b42 ∧
    ∃ n42, K b42 = (2, n42) ∧
    vp_in x5 n42 ∧
    ∃ b43, (xr u x0 24) = some b43 ∧
    ∃ n43, K b43 = (2, n43) ∧
    vp_in x5 n43 ∧
    ∀ u43 : XS, u43 = xsi u b43 x5.toNatClampNeg (xi u b42 x5.toNatClampNeg) →
    ∃ n, xw0_wears_L47 R Post K x0 x2 x5 n x3 x4 (0 : Int32) u43)
def xw0_wears_L8 (Post : Int32 → XS → Prop) (K : XK) (x0 : Nat) (x2 : Int32) : Nat → Int32 → Int32 → Int32 → XS → Prop
  | 0 => fun _ _ _ _ => False
  | n + 1 => fun x3 x4 x5 u => xw0_wears_L8_S Post K x0 x2 (xw0_wears_L8 Post K x0 x2 n) x3 x4 x5 u
/-- RaisedPress.wears(II)I -/
def xw0_wears (x0 : Nat) (x1 : Int32) (x2 : Int32) (K : XK) (u : XS) (Post : Int32 → XS → Prop) : Prop :=
  ∃ n, xw0_wears_L8 Post K x0 x2 n x1 (0 : Int32) (0 : Int32) u
set_option maxHeartbeats 4000000 in
set_option maxRecDepth 100000 in
theorem txw0_wears_L47 {X : JC} {D : va_G} {dA aK aV : Nat → Nat} {sz : Nat} {K : XK} {G8 : Int32 → Int32 → Int32 → XS → Prop} {Post : Int32 → XS → Prop} {x0 : Nat} {x2 : Int32} {x5 : Int32} (hX : JX X yX0_wears.cls cX0_wears 7 (Option.some Jvm.ClassFile.FieldType.int) 0 0 0 0) (hY : JY X D dA aK aV (AX K sz)) (hG8 : ∀ (y3 : Int32) (y4 : Int32) (y5 : Int32) (u : XS), G8 y3 y4 y5 u → JJ X (AX K sz) (jj_Q X (va_Qi (fun (r : Int32) (w : XS) => Post r w) (jx_B D dA K) (AX K sz)) 0 0 (AX K sz)) 7 (XP D dA (AX K sz) K u) 0 0 8 [(0, .ref x0), (2, .int x2), (3, .int y3), (4, .int y4), (5, .int y5)] []) : ∀ (n : Nat) (x3 : Int32) (x4 : Int32) (x6 : Int32) (u : XS), xw0_wears_L47 G8 Post K x0 x2 x5 n x3 x4 x6 u → JJ X (AX K sz) (jj_Q X (va_Qi (fun (r : Int32) (w : XS) => Post r w) (jx_B D dA K) (AX K sz)) 0 0 (AX K sz)) 7 (XP D dA (AX K sz) K u) 0 0 47 [(0, .ref x0), (2, .int x2), (3, .int x3), (4, .int x4), (5, .int x5), (6, .int x6)] [] := by
  intro n
  induction n with
  | zero =>
    intro x3 x4 x6 u h
    exact h.elim
  | succ n ih =>
    intro x3 x4 x6 u h
    have h : xw0_wears_L47_S G8 Post K x0 x2 x5 (xw0_wears_L47 G8 Post K x0 x2 x5 n) x3 x4 x6 u := h
    unfold xw0_wears_L47_S at h
    refine jj_iload hX dX0_wears_47 5 rfl 49 rfl ?_
    refine jj_bipush hX dX0_wears_49 cb_6 51 rfl ?_
    refine jj_icmp_ge hX dX0_wears_51 131 54 (by decide) rfl (fun c51 => ?_) (fun c51 => ?_)
    · have h := h.1 c51
      obtain ⟨v131, e131⟩ : ∃ y : Int32, y = x5 + (1 : Int32) := ⟨_, rfl⟩
      have h := h v131 e131
      refine jj_iinc (v := v131) (lv2 := [(0, .ref x0), (2, .int x2), (3, .int x3), (4, .int x4), (5, .int v131), (6, .int x6)]) hX dX0_wears_131 4 rfl (by rw [e131, ci_1]) (Nat.le_of_ble_eq_true rfl) [1, 2, 3, 4, 0, 5] rfl 134 rfl ?_
      refine jj_goto hX dX0_wears_134 8 (by decide) ?_
      refine jj_sub (lv2 := [(0, .ref x0), (2, .int x2), (3, .int x3), (4, .int x4), (5, .int v131)]) [0, 1, 2, 3, 4] rfl ?_
      exact hG8 _ _ _ _ h
    · have h := h.2 c51
      refine jj_aload_n hX dX0_wears_54 0 rfl 55 rfl ?_
      obtain ⟨k55, h⟩ := h
      refine xg0_10 hX hY k55 dX0_wears_55 q421 58 rfl ?_
      obtain ⟨b58, g58, h⟩ := h
      refine jj_st (st2 := [.ref b58]) (by rw [va_rf_some g58]) ?_
      obtain ⟨k58, h⟩ := h
      refine xgn4_2 hX hY k58 dX0_wears_58 nq319 61 rfl ?_
      obtain ⟨b61, g61, h⟩ := h
      refine jj_st (st2 := [.ref b61]) (by rw [va_rf_some g61]) ?_
      obtain ⟨k61, h⟩ := h
      refine xgn15_1 hX hY k61 dX0_wears_61 nq1003 64 rfl ?_
      refine jj_iload hX dX0_wears_64 4 rfl 66 rfl ?_
      obtain ⟨b66, g66, h⟩ := h
      refine jj_st (st2 := [.int x5, .ref b66]) (by rw [va_rf_some g66]) ?_
      obtain ⟨n66, k66, h⟩ := h
      obtain ⟨hi66, h⟩ := h
      refine jx_iald hX hY.1 k66 _ rfl hi66 dX0_wears_66 67 rfl ?_
      refine jj_iload hX dX0_wears_67 5 rfl 69 rfl ?_
      refine jj_ishr hX dX0_wears_69 70 rfl ?_
      refine jj_iconst hX dX0_wears_70 ci_1 71 rfl ?_
      refine jj_iand hX dX0_wears_71 72 rfl ?_
      refine jj_if_ne hX dX0_wears_72 78 75 (by decide) rfl (fun c72 => ?_) (fun c72 => ?_)
      · have h := h.1 c72
        refine jj_iload_n hX dX0_wears_78 2 rfl 79 rfl ?_
        refine jj_sipush hX dX0_wears_79 cs_2801 82 rfl ?_
        refine jj_imul hX dX0_wears_82 83 rfl ?_
        refine jj_sipush hX dX0_wears_83 cs_10163 86 rfl ?_
        refine jj_iadd hX dX0_wears_86 87 rfl ?_
        refine jj_ldcw (v := 65536) hX dX0_wears_87 q1443 90 rfl ?_
        refine jj_irem hX dX0_wears_90 (by decide) 91 rfl ?_
        refine jj_topi (fun v91 e91 => ?_)
        have h := h v91 e91
        refine jj_istore_n (lv2 := [(0, .ref x0), (2, .int x2), (3, .int v91), (4, .int x4), (5, .int x5), (6, .int x6)]) hX dX0_wears_91 (Nat.le_of_ble_eq_true rfl) [1, 2, 0, 3, 4, 5] rfl 92 rfl ?_
        refine jj_iload_n hX dX0_wears_92 2 rfl 93 rfl ?_
        refine jj_bipush hX dX0_wears_93 cb_8 95 rfl ?_
        refine jj_idiv hX dX0_wears_95 (by decide) 96 rfl ?_
        refine jj_bipush hX dX0_wears_96 cb_16 98 rfl ?_
        refine jj_irem hX dX0_wears_98 (by decide) 99 rfl ?_
        refine jj_iload_n hX dX0_wears_99 1 rfl 100 rfl ?_
        refine jj_icmp_lt hX dX0_wears_100 106 103 (by decide) rfl (fun c100 => ?_) (fun c100 => ?_)
        · have h := h.1 c100
          refine jj_aload_n hX dX0_wears_106 0 rfl 107 rfl ?_
          refine xg0_24 hX hY k55 dX0_wears_107 q435 110 rfl ?_
          refine jj_iload hX dX0_wears_110 4 rfl 112 rfl ?_
          obtain ⟨b112, g112, h⟩ := h
          refine jj_st (st2 := [.int x5, .ref b112]) (by rw [va_rf_some g112]) ?_
          refine jj_dup2 hX dX0_wears_112 rfl rfl 113 rfl ?_
          obtain ⟨n113, k113, h⟩ := h
          obtain ⟨hi113, h⟩ := h
          refine jx_iald hX hY.1 k113 _ rfl hi113 dX0_wears_113 114 rfl ?_
          refine jj_iconst hX dX0_wears_114 ci_1 115 rfl ?_
          refine jj_iload hX dX0_wears_115 5 rfl 117 rfl ?_
          refine jj_ishl hX dX0_wears_117 118 rfl ?_
          refine jj_iconst hX dX0_wears_118 ci_m1 119 rfl ?_
          refine jj_ixor hX dX0_wears_119 120 rfl ?_
          refine jj_iand hX dX0_wears_120 121 rfl ?_
          obtain ⟨hi121, h⟩ := h
          refine jx_iast hX hY.1 k113 _ rfl hi121 dX0_wears_121 122 rfl (fun u121 e121 => ?_)
          have h := h u121 e121
          obtain ⟨v122, e122⟩ : ∃ y : Int32, y = x4 + (1 : Int32) := ⟨_, rfl⟩
          have h := h v122 e122
          refine jj_iinc (v := v122) (lv2 := [(0, .ref x0), (2, .int x2), (3, .int v91), (4, .int v122), (5, .int x5), (6, .int x6)]) hX dX0_wears_122 3 rfl (by rw [e122, ci_1]) (Nat.le_of_ble_eq_true rfl) [1, 2, 3, 0, 4, 5] rfl 125 rfl ?_
          obtain ⟨v125, e125⟩ : ∃ y : Int32, y = x6 + (1 : Int32) := ⟨_, rfl⟩
          have h := h v125 e125
          refine jj_iinc (v := v125) (lv2 := [(0, .ref x0), (2, .int x2), (3, .int v91), (4, .int v122), (5, .int x5), (6, .int v125)]) hX dX0_wears_125 5 rfl (by rw [e125, ci_1]) (Nat.le_of_ble_eq_true rfl) [1, 2, 3, 4, 5, 0] rfl 128 rfl ?_
          refine jj_goto hX dX0_wears_128 47 (by decide) ?_
          exact ih _ _ _ _ h
        · have h := h.2 c100
          refine jj_goto hX dX0_wears_103 125 (by decide) ?_
          obtain ⟨v125, e125⟩ : ∃ y : Int32, y = x6 + (1 : Int32) := ⟨_, rfl⟩
          have h := h v125 e125
          refine jj_iinc (v := v125) (lv2 := [(0, .ref x0), (2, .int x2), (3, .int v91), (4, .int x4), (5, .int x5), (6, .int v125)]) hX dX0_wears_125 5 rfl (by rw [e125, ci_1]) (Nat.le_of_ble_eq_true rfl) [1, 2, 3, 4, 5, 0] rfl 128 rfl ?_
          refine jj_goto hX dX0_wears_128 47 (by decide) ?_
          exact ih _ _ _ _ h
      · have h := h.2 c72
        refine jj_goto hX dX0_wears_75 125 (by decide) ?_
        obtain ⟨v125, e125⟩ : ∃ y : Int32, y = x6 + (1 : Int32) := ⟨_, rfl⟩
        have h := h v125 e125
        refine jj_iinc (v := v125) (lv2 := [(0, .ref x0), (2, .int x2), (3, .int x3), (4, .int x4), (5, .int x5), (6, .int v125)]) hX dX0_wears_125 5 rfl (by rw [e125, ci_1]) (Nat.le_of_ble_eq_true rfl) [1, 2, 3, 4, 5, 0] rfl 128 rfl ?_
        refine jj_goto hX dX0_wears_128 47 (by decide) ?_
        exact ih _ _ _ _ h
set_option maxHeartbeats 4000000 in
set_option maxRecDepth 100000 in
theorem txw0_wears_L8 {X : JC} {D : va_G} {dA aK aV : Nat → Nat} {sz : Nat} {K : XK} {Post : Int32 → XS → Prop} {x0 : Nat} {x2 : Int32} (hX : JX X yX0_wears.cls cX0_wears 7 (Option.some Jvm.ClassFile.FieldType.int) 0 0 0 0) (hY : JY X D dA aK aV (AX K sz)) : ∀ (n : Nat) (x3 : Int32) (x4 : Int32) (x5 : Int32) (u : XS), xw0_wears_L8 Post K x0 x2 n x3 x4 x5 u → JJ X (AX K sz) (jj_Q X (va_Qi (fun (r : Int32) (w : XS) => Post r w) (jx_B D dA K) (AX K sz)) 0 0 (AX K sz)) 7 (XP D dA (AX K sz) K u) 0 0 8 [(0, .ref x0), (2, .int x2), (3, .int x3), (4, .int x4), (5, .int x5)] [] := by
  intro n
  induction n with
  | zero =>
    intro x3 x4 x5 u h
    exact h.elim
  | succ n ih =>
    intro x3 x4 x5 u h
    have h : xw0_wears_L8_S Post K x0 x2 (xw0_wears_L8 Post K x0 x2 n) x3 x4 x5 u := h
    unfold xw0_wears_L8_S at h
    refine jj_iload hX dX0_wears_8 4 rfl 10 rfl ?_
    refine jj_aload_n hX dX0_wears_10 0 rfl 11 rfl ?_
    obtain ⟨k11, h⟩ := h
    refine xg0_10 hX hY k11 dX0_wears_11 q421 14 rfl ?_
    obtain ⟨b14, g14, h⟩ := h
    refine jj_st (st2 := [.ref b14, .int x5]) (by rw [va_rf_some g14]) ?_
    obtain ⟨k14, h⟩ := h
    refine xgn4_2 hX hY k14 dX0_wears_14 nq319 17 rfl ?_
    obtain ⟨b17, g17, h⟩ := h
    refine jj_st (st2 := [.ref b17, .int x5]) (by rw [va_rf_some g17]) ?_
    obtain ⟨k17, h⟩ := h
    refine xgn15_1 hX hY k17 dX0_wears_17 nq1003 20 rfl ?_
    obtain ⟨b20, g20, h⟩ := h
    refine jj_st (st2 := [.ref b20, .int x5]) (by rw [va_rf_some g20]) ?_
    obtain ⟨n20, k20, h⟩ := h
    refine jx_alen hX hY.1 k20 dX0_wears_20 21 rfl ?_
    refine jj_icmp_ge hX dX0_wears_21 137 24 (by decide) rfl (fun c21 => ?_) (fun c21 => ?_)
    · have h := h.1 c21
      refine jj_iload hX dX0_wears_137 3 rfl 139 rfl ?_
      exact jj_reti (post := (fun (r : Int32) (w : XS) => Post r w)) (u := u) hX dX0_wears_139 (Nat.le_refl 0) (Nat.le_refl 0) jx_hB h
    · have h := h.2 c21
      refine jj_aload_n hX dX0_wears_24 0 rfl 25 rfl ?_
      refine xg0_24 hX hY k11 dX0_wears_25 q435 28 rfl ?_
      refine jj_iload hX dX0_wears_28 4 rfl 30 rfl ?_
      refine jj_aload_n hX dX0_wears_30 0 rfl 31 rfl ?_
      refine xg0_10 hX hY k11 dX0_wears_31 q421 34 rfl ?_
      obtain ⟨b34, g34, h⟩ := h
      refine jj_st (st2 := [.ref b34, .int x5, va_rf (xr u x0 24)]) (by rw [va_rf_some g34]) ?_
      obtain ⟨k34, h⟩ := h
      refine xgn4_2 hX hY k34 dX0_wears_34 nq319 37 rfl ?_
      obtain ⟨b37, g37, h⟩ := h
      refine jj_st (st2 := [.ref b37, .int x5, va_rf (xr u x0 24)]) (by rw [va_rf_some g37]) ?_
      obtain ⟨k37, h⟩ := h
      refine xgn15_1 hX hY k37 dX0_wears_37 nq1003 40 rfl ?_
      refine jj_iload hX dX0_wears_40 4 rfl 42 rfl ?_
      obtain ⟨b42, g42, h⟩ := h
      refine jj_st (st2 := [.int x5, .ref b42, .int x5, va_rf (xr u x0 24)]) (by rw [va_rf_some g42]) ?_
      obtain ⟨n42, k42, h⟩ := h
      obtain ⟨hi42, h⟩ := h
      refine jx_iald hX hY.1 k42 _ rfl hi42 dX0_wears_42 43 rfl ?_
      obtain ⟨b43, g43, h⟩ := h
      refine jj_st (st2 := [.int (xi u b42 x5.toNatClampNeg), .int x5, .ref b43]) (by rw [va_rf_some g43]) ?_
      obtain ⟨n43, k43, h⟩ := h
      obtain ⟨hi43, h⟩ := h
      refine jx_iast hX hY.1 k43 _ rfl hi43 dX0_wears_43 44 rfl (fun u43 e43 => ?_)
      have h := h u43 e43
      refine jj_iconst hX dX0_wears_44 ci_0 45 rfl ?_
      refine jj_istore (lv2 := [(0, .ref x0), (2, .int x2), (3, .int x3), (4, .int x4), (5, .int x5), (6, .int (0 : Int32))]) hX dX0_wears_45 (Nat.le_of_ble_eq_true rfl) [1, 2, 3, 4, 5, 0] rfl 47 rfl ?_
      obtain ⟨n9, h⟩ := h
      exact txw0_wears_L47 hX hY ih n9 _ _ _ _ h
set_option maxHeartbeats 4000000 in
set_option maxRecDepth 100000 in
theorem mxw0_wears (l : Launch) (hfl : l.stackTraces = false) (D : va_G) (dA aK aV : Nat → Nat) (x0 : Nat) (x1 : Int32) (x2 : Int32) (K : XK) (u : XS) (Post : Int32 → XS → Prop) (h : xw0_wears x0 x1 x2 K u Post) (sz : Nat) : Met l yX0_wears (ws_ yX0_wears cX0_wears 7 (Option.some Jvm.ClassFile.FieldType.int)) (jx_rm 0 0 0 0) (jx_Pc D dA aK aV K u sz [.ref x0, .int x1, .int x2]) (va_Qi (fun (r : Int32) (w : XS) => Post r w) (jx_B D dA K) (AX K sz)) 0 0 (AX K sz) := by
  refine jx_start hfl [.ref x0, .int x1, .int x2] [(0, .ref x0), (1, .int x1), (2, .int x2)] (by decide) (Nat.le_of_ble_eq_true rfl) rfl (fun X hX hY hin => ?_)
  unfold xw0_wears at h
  refine jj_iload_n hX dX0_wears_0 1 rfl 1 rfl ?_
  refine jj_istore_n (lv2 := [(0, .ref x0), (2, .int x2), (3, .int x1)]) hX dX0_wears_1 (Nat.le_of_ble_eq_true rfl) [1, 3, 0] rfl 2 rfl ?_
  refine jj_iconst hX dX0_wears_2 ci_0 3 rfl ?_
  refine jj_istore (lv2 := [(0, .ref x0), (2, .int x2), (3, .int x1), (4, .int (0 : Int32))]) hX dX0_wears_3 (Nat.le_of_ble_eq_true rfl) [1, 2, 3, 0] rfl 5 rfl ?_
  refine jj_iconst hX dX0_wears_5 ci_0 6 rfl ?_
  refine jj_istore (lv2 := [(0, .ref x0), (2, .int x2), (3, .int x1), (4, .int (0 : Int32)), (5, .int (0 : Int32))]) hX dX0_wears_6 (Nat.le_of_ble_eq_true rfl) [1, 2, 3, 4, 0] rfl 8 rfl ?_
  obtain ⟨n9, h⟩ := h
  exact txw0_wears_L8 hX hY n9 _ _ _ _ h
theorem hd_xw0_wears : yX0_wears.cls ≠ "java/lang/invoke/MethodHandle" ∧ yX0_wears.cls ≠ "java/lang/invoke/VarHandle" ∧ (parseMethodDescriptor yX0_wears.desc).map (fun d => d.parameters.length) = some 2 := by decide +kernel
theorem kxw0_wears {X : JC} {A : Nat → Prop} {Q : State → Prop} {nL k n pc : Nat} {lv : List (Nat × Value)} {st : List Value} {own : String} {cc : ByteArray} {ret : Option FieldType} {F LL mc ms ix : Nat} {D : va_G} {dA aK aV : Nat → Nat} {K : XK} {u : XS} {x0 : Nat} {x1 : Int32} {x2 : Int32} {Post : Int32 → XS → Prop} (hX : JX X own cc nL ret F LL mc ms) (hY : JY X D dA aK aV A) (h1a : K x0 = (1, 0)) (hlk : (Cond.methodLink own ix yX0_wears) ∈ lw_all) (hF : 0 + 1 ≤ F) (hL : 8 + (7 + 11) + 0 ≤ LL) (hk : k ≤ mc) (hk2 : n ≤ ms) (hw : (st.map fun v => v.category).sum ≤ 8) (d : decode cc pc = .ok (.invokevirtual ix, 3)) (q : Nat) (hq : pc + 3 = q) (h : xw0_wears x0 x1 x2 K u  Post) (kk : ∀ (r : Int32) (u2 : XS), Post r u2 → JJ X A Q nL (XP D dA A K u2) k n q lv (.int r :: st)) : JJ X A Q nL (XP D dA A K u) k n pc lv (.int x2 :: .int x1 :: .ref x0 :: st) :=
  jx_callVi (na := 2) (As := [.int x1, .int x2]) hX hY jf0 h1a (fun sz => mxw0_wears (jj_l X) hY.2.2.2.2 D dA aK aV x0 x1 x2 K u  Post h sz) hlk q1441 qs56 q120 q1442 ⟨rfl, hd_xw0_wears⟩ rfl rfl hw hF hL hk hk2 d q hq kk
theorem knxw0_wears {X : JC} {A : Nat → Prop} {Q : State → Prop} {nL k n pc : Nat} {lv : List (Nat × Value)} {st : List Value} {own : String} {cc : ByteArray} {ret : Option FieldType} {F LL mc ms ix : Nat} {D : va_G} {dA aK aV : Nat → Nat} {K : XK} {u : XS} {x0 : Nat} {x1 : Int32} {x2 : Int32} {host : String} {Post : Int32 → XS → Prop} (hX : JX X own cc nL ret F LL mc ms) (hY : JY X D dA aK aV A) (h1a : K x0 = (1, 0)) (hlk : (Cond.methodLinkNest own ix yX0_wears host) ∈ jx_nest) (hF : 0 + 1 ≤ F) (hL : 8 + (7 + 11) + 0 ≤ LL) (hk : k ≤ mc) (hk2 : n ≤ ms) (hw : (st.map fun v => v.category).sum ≤ 8) (d : decode cc pc = .ok (.invokevirtual ix, 3)) (q : Nat) (hq : pc + 3 = q) (h : xw0_wears x0 x1 x2 K u  Post) (kk : ∀ (r : Int32) (u2 : XS), Post r u2 → JJ X A Q nL (XP D dA A K u2) k n q lv (.int r :: st)) : JJ X A Q nL (XP D dA A K u) k n pc lv (.int x2 :: .int x1 :: .ref x0 :: st) :=
  jx_callNi (na := 2) (As := [.int x1, .int x2]) hX hY jf0 h1a (fun sz => mxw0_wears (jj_l X) hY.2.2.2.2 D dA aK aV x0 x1 x2 K u  Post h sz) hlk q1441 qs56 q120 q1442 hd_xw0_wears rfl rfl hw hF hL hk hk2 d q hq kk
def xw0_worn_B33 (Post : Int32 → XS → Prop) (K : XK) (x0 : Nat) (x1 : Int32) (x2 : Int32) (s0 : Int32) (s1 : Nat) (u : XS) : Prop :=
  K s1 = (1, 0) ∧
  ∀ u33 : XS, u33 = xsi u s1 7 s0 →
  K x0 = (1, 0) ∧
  ((xi u33 x0 7) ≤ 0 →
    xw0_wears x0 x1 x2 K u33 (fun r48 u48 =>
      ∃ b57, (xr u48 x0 10) = some b57 ∧
      K b57 = (1, 4) ∧
      ∃ b60, (xr u48 b57 2) = some b60 ∧
      K b60 = (1, 15) ∧
      ∃ b63, (xr u48 b60 1) = some b63 ∧
      ∃ n63, K b63 = (2, n63) ∧
      ∀ u64 : XS, u64 = xsi u48 x0 26 (nI n63) →
      ∃ b81, (xr u64 x0 25) = some b81 ∧
      ∃ b81_1, (xr u64 x0 24) = some b81_1 ∧
      ∃ n81, K b81_1 = (2, n81) ∧
      ∃ n81_1, K b81 = (2, n81_1) ∧
      ¬ (0 : Int32) < 0 ∧ ¬ (0 : Int32) < 0 ∧ ¬ (xi u64 x0 26) < 0 ∧ (0 : Int32).toNatClampNeg + (xi u64 x0 26).toNatClampNeg ≤ n81 ∧ (0 : Int32).toNatClampNeg + (xi u64 x0 26).toNatClampNeg ≤ n81_1 ∧ ∀ u81 : XS, u81 = xcp u64 b81_1 (0 : Int32).toNatClampNeg b81 (0 : Int32).toNatClampNeg (xi u64 x0 26).toNatClampNeg →
      Post r48 u81)) ∧
  (¬ (xi u33 x0 7) ≤ 0 →
    Post (-1 : Int32) u33)
/-- RaisedPress.worn(II)I -/
def xw0_worn (x0 : Nat) (x1 : Int32) (x2 : Int32) (K : XK) (u : XS) (Post : Int32 → XS → Prop) : Prop :=
  xs_isIn x1.toInt64 (0 : Int64) (9999 : Int64) (fun r7 =>
    (r7 = 0 →
      xw0_worn_B33 Post K x0 x1 x2 (1 : Int32) x0 u) ∧
    (¬ r7 = 0 →
      xs_isIn x2.toInt64 (0 : Int64) (16 : Int64) (fun r19 =>
        (¬ r19 = 0 →
          K x0 = (1, 0) ∧
          xw0_whyNotSet x0 K u (fun r30 u30 =>
            xw0_worn_B33 Post K x0 x1 x2 r30 x0 u30)) ∧
        (r19 = 0 →
          xw0_worn_B33 Post K x0 x1 x2 (1 : Int32) x0 u))))
set_option maxHeartbeats 4000000 in
set_option maxRecDepth 100000 in
theorem txw0_worn_B33 {X : JC} {D : va_G} {dA aK aV : Nat → Nat} {sz : Nat} {K : XK} {Post : Int32 → XS → Prop} {x0 : Nat} {x1 : Int32} {x2 : Int32} {s0 : Int32} {s1 : Nat} {u : XS} (hX : JX X yX0_worn.cls cX0_worn 4 (Option.some Jvm.ClassFile.FieldType.int) 2 60 0 0) (hY : JY X D dA aK aV (AX K sz)) (h : xw0_worn_B33 Post K x0 x1 x2 s0 s1 u) : JJ X (AX K sz) (jj_Q X (va_Qi (fun (r : Int32) (w : XS) => Post r w) (jx_B D dA K) (AX K sz)) 0 0 (AX K sz)) 4 (XP D dA (AX K sz) K u) 0 0 33 [(0, .ref x0), (1, .int x1), (2, .int x2)] [.int s0, .ref s1] := by
  unfold xw0_worn_B33 at h
  obtain ⟨k33, h⟩ := h
  refine xp0_7 hX hY k33 dX0_worn_33 q418 36 rfl (fun u33 e33 => ?_)
  have h := h u33 e33
  refine jj_aload_n hX dX0_worn_36 0 rfl 37 rfl ?_
  obtain ⟨k37, h⟩ := h
  refine xg0_7 hX hY k37 dX0_worn_37 q418 40 rfl ?_
  refine jj_if_le hX dX0_worn_40 45 43 (by decide) rfl (fun c40 => ?_) (fun c40 => ?_)
  · have h := h.1 c40
    refine jj_aload_n hX dX0_worn_45 0 rfl 46 rfl ?_
    refine jj_iload_n hX dX0_worn_46 1 rfl 47 rfl ?_
    refine jj_iload_n hX dX0_worn_47 2 rfl 48 rfl ?_
    refine kxw0_wears hX hY k37 q1439 (Nat.le_of_ble_eq_true rfl) (Nat.le_of_ble_eq_true rfl) (Nat.zero_le _) (Nat.zero_le _) (Nat.le_of_ble_eq_true rfl) dX0_worn_48 51 rfl h (fun r48 u48 h => ?_)
    refine jj_istore_n (lv2 := [(0, .ref x0), (3, .int r48)]) hX dX0_worn_51 (Nat.le_of_ble_eq_true rfl) [1, 0] rfl 52 rfl ?_
    refine jj_aload_n hX dX0_worn_52 0 rfl 53 rfl ?_
    refine jj_aload_n hX dX0_worn_53 0 rfl 54 rfl ?_
    refine xg0_10 hX hY k37 dX0_worn_54 q421 57 rfl ?_
    obtain ⟨b57, g57, h⟩ := h
    refine jj_st (st2 := [.ref b57, .ref x0]) (by rw [va_rf_some g57]) ?_
    obtain ⟨k57, h⟩ := h
    refine xgn4_2 hX hY k57 dX0_worn_57 nq319 60 rfl ?_
    obtain ⟨b60, g60, h⟩ := h
    refine jj_st (st2 := [.ref b60, .ref x0]) (by rw [va_rf_some g60]) ?_
    obtain ⟨k60, h⟩ := h
    refine xgn15_1 hX hY k60 dX0_worn_60 nq1003 63 rfl ?_
    obtain ⟨b63, g63, h⟩ := h
    refine jj_st (st2 := [.ref b63, .ref x0]) (by rw [va_rf_some g63]) ?_
    obtain ⟨n63, k63, h⟩ := h
    refine jx_alen hX hY.1 k63 dX0_worn_63 64 rfl ?_
    refine xp0_26 hX hY k37 dX0_worn_64 q437 67 rfl (fun u64 e64 => ?_)
    have h := h u64 e64
    refine jj_aload_n hX dX0_worn_67 0 rfl 68 rfl ?_
    refine xg0_24 hX hY k37 dX0_worn_68 q435 71 rfl ?_
    refine jj_iconst hX dX0_worn_71 ci_0 72 rfl ?_
    refine jj_aload_n hX dX0_worn_72 0 rfl 73 rfl ?_
    refine xg0_25 hX hY k37 dX0_worn_73 q436 76 rfl ?_
    refine jj_iconst hX dX0_worn_76 ci_0 77 rfl ?_
    refine jj_aload_n hX dX0_worn_77 0 rfl 78 rfl ?_
    refine xg0_26 hX hY k37 dX0_worn_78 q437 81 rfl ?_
    obtain ⟨b81, g81, h⟩ := h
    refine jj_st (st2 := [.int (xi u64 x0 26), .int (0 : Int32), .ref b81, .int (0 : Int32), va_rf (xr u64 x0 24)]) (by rw [va_rf_some g81]) ?_
    obtain ⟨b81_1, g81_1, h⟩ := h
    refine jj_st (st2 := [.int (xi u64 x0 26), .int (0 : Int32), .ref b81, .int (0 : Int32), .ref b81_1]) (by rw [va_rf_some g81_1]) ?_
    obtain ⟨n81, k81, h⟩ := h
    obtain ⟨n81_1, k81_1, h⟩ := h
    obtain ⟨g81_2, g81_3, g81_4, g81_5, g81_6, h⟩ := h
    refine jx_copyi hX hY k81 k81_1 (by decide) q610 g81_2 g81_3 g81_4 g81_5 g81_6 (Nat.le_of_ble_eq_true rfl) (by decide) (Nat.le_of_ble_eq_true rfl) dX0_worn_81 84 rfl (fun u81 e81 => ?_)
    have h := h u81 e81
    refine jj_iload_n hX dX0_worn_84 1 rfl 85 rfl ?_
    exact jj_reti (post := (fun (r : Int32) (w : XS) => Post r w)) (u := u81) hX dX0_worn_85 (Nat.le_refl 0) (Nat.le_refl 0) jx_hB h
  · have h := h.2 c40
    refine jj_iconst hX dX0_worn_43 ci_m1 44 rfl ?_
    exact jj_reti (post := (fun (r : Int32) (w : XS) => Post r w)) (u := u33) hX dX0_worn_44 (Nat.le_refl 0) (Nat.le_refl 0) jx_hB h
set_option maxHeartbeats 4000000 in
set_option maxRecDepth 100000 in
theorem mxw0_worn (l : Launch) (hfl : l.stackTraces = false) (D : va_G) (dA aK aV : Nat → Nat) (x0 : Nat) (x1 : Int32) (x2 : Int32) (K : XK) (u : XS) (Post : Int32 → XS → Prop) (h : xw0_worn x0 x1 x2 K u Post) (sz : Nat) : Met l yX0_worn (ws_ yX0_worn cX0_worn 4 (Option.some Jvm.ClassFile.FieldType.int)) (jx_rm 2 60 0 0) (jx_Pc D dA aK aV K u sz [.ref x0, .int x1, .int x2]) (va_Qi (fun (r : Int32) (w : XS) => Post r w) (jx_B D dA K) (AX K sz)) 0 0 (AX K sz) := by
  refine jx_start hfl [.ref x0, .int x1, .int x2] [(0, .ref x0), (1, .int x1), (2, .int x2)] (by decide) (Nat.le_of_ble_eq_true rfl) rfl (fun X hX hY hin => ?_)
  unfold xw0_worn at h
  refine jj_aload_n hX dX0_worn_0 0 rfl 1 rfl ?_
  refine jj_iload_n hX dX0_worn_1 1 rfl 2 rfl ?_
  refine jj_i2l hX dX0_worn_2 3 rfl ?_
  refine jj_lconst (v := 0) hX dX0_worn_3 (by decide) 4 rfl ?_
  refine jj_ldc2 (v := 9999) hX dX0_worn_4 q1437 7 rfl ?_
  refine kxs_isIn hX XP.keeps q1074 (Nat.le_of_ble_eq_true rfl) (Nat.le_of_ble_eq_true rfl) (Nat.zero_le _) (Nat.zero_le _) (Nat.le_of_ble_eq_true rfl) dX0_worn_7 10 rfl h (fun r7 hb7 h => ?_)
  refine jj_if_eq hX dX0_worn_10 25 13 (by decide) rfl (fun c10 => ?_) (fun c10 => ?_)
  · have h := h.1 c10
    refine jj_iconst hX dX0_worn_25 ci_1 26 rfl ?_
    refine jj_goto hX dX0_worn_26 33 (by decide) ?_
    exact txw0_worn_B33 hX hY h
  · have h := h.2 c10
    refine jj_iload_n hX dX0_worn_13 2 rfl 14 rfl ?_
    refine jj_i2l hX dX0_worn_14 15 rfl ?_
    refine jj_lconst (v := 0) hX dX0_worn_15 (by decide) 16 rfl ?_
    refine jj_ldc2 (v := 16) hX dX0_worn_16 q1438 19 rfl ?_
    refine kxs_isIn hX XP.keeps q1074 (Nat.le_of_ble_eq_true rfl) (Nat.le_of_ble_eq_true rfl) (Nat.zero_le _) (Nat.zero_le _) (Nat.le_of_ble_eq_true rfl) dX0_worn_19 22 rfl h (fun r19 hb19 h => ?_)
    refine jj_if_ne hX dX0_worn_22 29 25 (by decide) rfl (fun c22 => ?_) (fun c22 => ?_)
    · have h := h.1 c22
      refine jj_aload_n hX dX0_worn_29 0 rfl 30 rfl ?_
      obtain ⟨k30, h⟩ := h
      refine kxw0_whyNotSet hX hY k30 q1111 (Nat.le_of_ble_eq_true rfl) (Nat.le_of_ble_eq_true rfl) (Nat.zero_le _) (Nat.zero_le _) (Nat.le_of_ble_eq_true rfl) dX0_worn_30 33 rfl h (fun r30 u30 h => ?_)
      exact txw0_worn_B33 hX hY h
    · have h := h.2 c22
      refine jj_iconst hX dX0_worn_25 ci_1 26 rfl ?_
      refine jj_goto hX dX0_worn_26 33 (by decide) ?_
      exact txw0_worn_B33 hX hY h
theorem hd_xw0_worn : yX0_worn.cls ≠ "java/lang/invoke/MethodHandle" ∧ yX0_worn.cls ≠ "java/lang/invoke/VarHandle" ∧ (parseMethodDescriptor yX0_worn.desc).map (fun d => d.parameters.length) = some 2 := by decide +kernel
theorem kxw0_worn {X : JC} {A : Nat → Prop} {Q : State → Prop} {nL k n pc : Nat} {lv : List (Nat × Value)} {st : List Value} {own : String} {cc : ByteArray} {ret : Option FieldType} {F LL mc ms ix : Nat} {D : va_G} {dA aK aV : Nat → Nat} {K : XK} {u : XS} {x0 : Nat} {x1 : Int32} {x2 : Int32} {Post : Int32 → XS → Prop} (hX : JX X own cc nL ret F LL mc ms) (hY : JY X D dA aK aV A) (h1a : K x0 = (1, 0)) (hlk : (Cond.methodLink own ix yX0_worn) ∈ lw_all) (hF : 2 + 1 ≤ F) (hL : 8 + (4 + 11) + 60 ≤ LL) (hk : k ≤ mc) (hk2 : n ≤ ms) (hw : (st.map fun v => v.category).sum ≤ 8) (d : decode cc pc = .ok (.invokevirtual ix, 3)) (q : Nat) (hq : pc + 3 = q) (h : xw0_worn x0 x1 x2 K u  Post) (kk : ∀ (r : Int32) (u2 : XS), Post r u2 → JJ X A Q nL (XP D dA A K u2) k n q lv (.int r :: st)) : JJ X A Q nL (XP D dA A K u) k n pc lv (.int x2 :: .int x1 :: .ref x0 :: st) :=
  jx_callVi (na := 2) (As := [.int x1, .int x2]) hX hY jf0 h1a (fun sz => mxw0_worn (jj_l X) hY.2.2.2.2 D dA aK aV x0 x1 x2 K u  Post h sz) hlk q1434 q1435 q120 q1436 ⟨rfl, hd_xw0_worn⟩ rfl rfl hw hF hL hk hk2 d q hq kk
theorem knxw0_worn {X : JC} {A : Nat → Prop} {Q : State → Prop} {nL k n pc : Nat} {lv : List (Nat × Value)} {st : List Value} {own : String} {cc : ByteArray} {ret : Option FieldType} {F LL mc ms ix : Nat} {D : va_G} {dA aK aV : Nat → Nat} {K : XK} {u : XS} {x0 : Nat} {x1 : Int32} {x2 : Int32} {host : String} {Post : Int32 → XS → Prop} (hX : JX X own cc nL ret F LL mc ms) (hY : JY X D dA aK aV A) (h1a : K x0 = (1, 0)) (hlk : (Cond.methodLinkNest own ix yX0_worn host) ∈ jx_nest) (hF : 2 + 1 ≤ F) (hL : 8 + (4 + 11) + 60 ≤ LL) (hk : k ≤ mc) (hk2 : n ≤ ms) (hw : (st.map fun v => v.category).sum ≤ 8) (d : decode cc pc = .ok (.invokevirtual ix, 3)) (q : Nat) (hq : pc + 3 = q) (h : xw0_worn x0 x1 x2 K u  Post) (kk : ∀ (r : Int32) (u2 : XS), Post r u2 → JJ X A Q nL (XP D dA A K u2) k n q lv (.int r :: st)) : JJ X A Q nL (XP D dA A K u) k n pc lv (.int x2 :: .int x1 :: .ref x0 :: st) :=
  jx_callNi (na := 2) (As := [.int x1, .int x2]) hX hY jf0 h1a (fun sz => mxw0_worn (jj_l X) hY.2.2.2.2 D dA aK aV x0 x1 x2 K u  Post h sz) hlk q1434 q1435 q120 q1436 hd_xw0_worn rfl rfl hw hF hL hk hk2 d q hq kk
/-- RaisedPress.wornAt(I)I -/
def xw0_wornAt (x0 : Nat) (x1 : Int32) (K : XK) (u : XS) (Post : Int32 → XS → Prop) : Prop :=
  K x0 = (1, 0) ∧
  xs_isIn x1.toInt64 (0 : Int64) ((xi u x0 26) - (1 : Int32)).toInt64 (fun r11 =>
    (r11 = 0 →
      xw0_answer x0 (-1 : Int32) K u (fun r27 u27 =>
        Post r27 u27)) ∧
    (¬ r11 = 0 →
      ∃ b22, (xr u x0 25) = some b22 ∧
      ∃ n22, K b22 = (2, n22) ∧
      vp_in x1 n22 ∧
      xw0_answer x0 (xi u b22 x1.toNatClampNeg) K u (fun r27 u27 =>
        Post r27 u27)))
set_option maxHeartbeats 4000000 in
set_option maxRecDepth 100000 in
theorem mxw0_wornAt (l : Launch) (hfl : l.stackTraces = false) (D : va_G) (dA aK aV : Nat → Nat) (x0 : Nat) (x1 : Int32) (K : XK) (u : XS) (Post : Int32 → XS → Prop) (h : xw0_wornAt x0 x1 K u Post) (sz : Nat) : Met l yX0_wornAt (ws_ yX0_wornAt cX0_wornAt 2 (Option.some Jvm.ClassFile.FieldType.int)) (jx_rm 1 25 0 0) (jx_Pc D dA aK aV K u sz [.ref x0, .int x1]) (va_Qi (fun (r : Int32) (w : XS) => Post r w) (jx_B D dA K) (AX K sz)) 0 0 (AX K sz) := by
  refine jx_start hfl [.ref x0, .int x1] [(0, .ref x0), (1, .int x1)] (by decide) (Nat.le_of_ble_eq_true rfl) rfl (fun X hX hY hin => ?_)
  unfold xw0_wornAt at h
  refine jj_aload_n hX dX0_wornAt_0 0 rfl 1 rfl ?_
  refine jj_iload_n hX dX0_wornAt_1 1 rfl 2 rfl ?_
  refine jj_i2l hX dX0_wornAt_2 3 rfl ?_
  refine jj_lconst (v := 0) hX dX0_wornAt_3 (by decide) 4 rfl ?_
  refine jj_aload_n hX dX0_wornAt_4 0 rfl 5 rfl ?_
  obtain ⟨k5, h⟩ := h
  refine xg0_26 hX hY k5 dX0_wornAt_5 q437 8 rfl ?_
  refine jj_iconst hX dX0_wornAt_8 ci_1 9 rfl ?_
  refine jj_isub hX dX0_wornAt_9 10 rfl ?_
  refine jj_i2l hX dX0_wornAt_10 11 rfl ?_
  refine kxs_isIn hX XP.keeps q1074 (Nat.le_of_ble_eq_true rfl) (Nat.le_of_ble_eq_true rfl) (Nat.zero_le _) (Nat.zero_le _) (Nat.le_of_ble_eq_true rfl) dX0_wornAt_11 14 rfl h (fun r11 hb11 h => ?_)
  refine jj_if_eq hX dX0_wornAt_14 26 17 (by decide) rfl (fun c14 => ?_) (fun c14 => ?_)
  · have h := h.1 c14
    refine jj_iconst hX dX0_wornAt_26 ci_m1 27 rfl ?_
    refine kxw0_answer hX hY k5 q1077 (Nat.le_of_ble_eq_true rfl) (Nat.le_of_ble_eq_true rfl) (Nat.zero_le _) (Nat.zero_le _) (Nat.le_of_ble_eq_true rfl) dX0_wornAt_27 30 rfl h (fun r27 u27 h => ?_)
    exact jj_reti (post := (fun (r : Int32) (w : XS) => Post r w)) (u := u27) hX dX0_wornAt_30 (Nat.le_refl 0) (Nat.le_refl 0) jx_hB h
  · have h := h.2 c14
    refine jj_aload_n hX dX0_wornAt_17 0 rfl 18 rfl ?_
    refine xg0_25 hX hY k5 dX0_wornAt_18 q436 21 rfl ?_
    refine jj_iload_n hX dX0_wornAt_21 1 rfl 22 rfl ?_
    obtain ⟨b22, g22, h⟩ := h
    refine jj_st (st2 := [.int x1, .ref b22, .ref x0]) (by rw [va_rf_some g22]) ?_
    obtain ⟨n22, k22, h⟩ := h
    obtain ⟨hi22, h⟩ := h
    refine jx_iald hX hY.1 k22 _ rfl hi22 dX0_wornAt_22 23 rfl ?_
    refine jj_goto hX dX0_wornAt_23 27 (by decide) ?_
    refine kxw0_answer hX hY k5 q1077 (Nat.le_of_ble_eq_true rfl) (Nat.le_of_ble_eq_true rfl) (Nat.zero_le _) (Nat.zero_le _) (Nat.le_of_ble_eq_true rfl) dX0_wornAt_27 30 rfl h (fun r27 u27 h => ?_)
    exact jj_reti (post := (fun (r : Int32) (w : XS) => Post r w)) (u := u27) hX dX0_wornAt_30 (Nat.le_refl 0) (Nat.le_refl 0) jx_hB h
theorem hd_xw0_wornAt : yX0_wornAt.cls ≠ "java/lang/invoke/MethodHandle" ∧ yX0_wornAt.cls ≠ "java/lang/invoke/VarHandle" ∧ (parseMethodDescriptor yX0_wornAt.desc).map (fun d => d.parameters.length) = some 1 := by decide +kernel
theorem kxw0_wornAt {X : JC} {A : Nat → Prop} {Q : State → Prop} {nL k n pc : Nat} {lv : List (Nat × Value)} {st : List Value} {own : String} {cc : ByteArray} {ret : Option FieldType} {F LL mc ms ix : Nat} {D : va_G} {dA aK aV : Nat → Nat} {K : XK} {u : XS} {x0 : Nat} {x1 : Int32} {Post : Int32 → XS → Prop} (hX : JX X own cc nL ret F LL mc ms) (hY : JY X D dA aK aV A) (h1a : K x0 = (1, 0)) (hlk : (Cond.methodLink own ix yX0_wornAt) ∈ lw_all) (hF : 1 + 1 ≤ F) (hL : 8 + (2 + 11) + 25 ≤ LL) (hk : k ≤ mc) (hk2 : n ≤ ms) (hw : (st.map fun v => v.category).sum ≤ 8) (d : decode cc pc = .ok (.invokevirtual ix, 3)) (q : Nat) (hq : pc + 3 = q) (h : xw0_wornAt x0 x1 K u  Post) (kk : ∀ (r : Int32) (u2 : XS), Post r u2 → JJ X A Q nL (XP D dA A K u2) k n q lv (.int r :: st)) : JJ X A Q nL (XP D dA A K u) k n pc lv (.int x1 :: .ref x0 :: st) :=
  jx_callVi (na := 1) (As := [.int x1]) hX hY jf0 h1a (fun sz => mxw0_wornAt (jj_l X) hY.2.2.2.2 D dA aK aV x0 x1 K u  Post h sz) hlk q1445 q1446 q120 q1447 ⟨rfl, hd_xw0_wornAt⟩ rfl rfl hw hF hL hk hk2 d q hq kk
theorem knxw0_wornAt {X : JC} {A : Nat → Prop} {Q : State → Prop} {nL k n pc : Nat} {lv : List (Nat × Value)} {st : List Value} {own : String} {cc : ByteArray} {ret : Option FieldType} {F LL mc ms ix : Nat} {D : va_G} {dA aK aV : Nat → Nat} {K : XK} {u : XS} {x0 : Nat} {x1 : Int32} {host : String} {Post : Int32 → XS → Prop} (hX : JX X own cc nL ret F LL mc ms) (hY : JY X D dA aK aV A) (h1a : K x0 = (1, 0)) (hlk : (Cond.methodLinkNest own ix yX0_wornAt host) ∈ jx_nest) (hF : 1 + 1 ≤ F) (hL : 8 + (2 + 11) + 25 ≤ LL) (hk : k ≤ mc) (hk2 : n ≤ ms) (hw : (st.map fun v => v.category).sum ≤ 8) (d : decode cc pc = .ok (.invokevirtual ix, 3)) (q : Nat) (hq : pc + 3 = q) (h : xw0_wornAt x0 x1 K u  Post) (kk : ∀ (r : Int32) (u2 : XS), Post r u2 → JJ X A Q nL (XP D dA A K u2) k n q lv (.int r :: st)) : JJ X A Q nL (XP D dA A K u) k n pc lv (.int x1 :: .ref x0 :: st) :=
  jx_callNi (na := 1) (As := [.int x1]) hX hY jf0 h1a (fun sz => mxw0_wornAt (jj_l X) hY.2.2.2.2 D dA aK aV x0 x1 K u  Post h sz) hlk q1445 q1446 q120 q1447 hd_xw0_wornAt rfl rfl hw hF hL hk hk2 d q hq kk
/-- Math.abs of a long -/
def jw_abs (x0 : Int64) (Post : Int64 → Prop) : Prop := Post (if 0 < x0 then x0 else -x0)
theorem kjw_abs {X : JC} {A : Nat → Prop} {Q : State → Prop} {P : Heap → Prop} {nL k n pc : Nat} {lv : List (Nat × Value)} {st : List Value} {own : String} {cc : ByteArray} {ret : Option FieldType} {F LL mc ms ix : Nat} {x0 : Int64} {Post : Int64 → Prop} (hX : JX X own cc nL ret F LL mc ms) (hKP : jj_Keeps P) (hlk : (Cond.methodLink own ix yJ10_abs) ∈ lw_all) (hF : 0 + 1 ≤ F) (hL : 8 + (2 + 11) + 0 ≤ LL) (hk : k ≤ mc) (hk2 : n ≤ ms) (hw : (st.map fun v => v.category).sum ≤ 8) (d : decode cc pc = .ok (.invokestatic ix, 3)) (q : Nat) (hq : pc + 3 = q) (h : jw_abs x0 Post) (kk : ∀ r : Int64, Post r → JJ X A Q nL P k n q lv (.long r :: st)) : JJ X A Q nL P k n pc lv (.long x0 :: st) := by
  subst hq
  obtain ⟨h1, h2, h3, h4, h5, h6, h7, h8, h9, h10, h11⟩ := hX
  exact fun H locs ls hP hS hh => va_mabs_long h1 h2 (h3.trans hh.1.symm) h4 (h5 _ hlk) (h5 _ q1457) (h5 _ q146) (h5 _ q1458) (by rw [h8]; omega) (by rw [h9]; omega) (by rw [h10]; exact hk) (by rw [h11]; exact hk2) d (kk _ h H locs ls hP hS hh)
/-- java/lang/Long.signum(J)I -/
def js_signum (x0 : Int64) (Post : Int32 → Prop) : Prop :=
  Post ((x0 >>> ((63 : Int32).toInt64 &&& 63)) ||| ((-x0).toUInt64 >>> ((63 : Int32).toInt64.toUInt64 &&& Int64.toUInt64 63)).toInt64).toInt32
set_option maxHeartbeats 4000000 in
set_option maxRecDepth 100000 in
theorem mjs_signum (l : Launch) (x0 : Int64) (Post : Int32 → Prop) (h : js_signum x0 Post) : Met l yJ12_signum (ws_ yJ12_signum cJ12_signum 2 (Option.some Jvm.ClassFile.FieldType.int)) (jm_rm 0 0) (js_Pc [.long x0]) (va_Qi (fun r (_ : Unit) => Post r) js_B js_A) 0 0 js_A := by
  refine js_start [.long x0] [(0, .long x0)] (by decide) (Nat.le_of_ble_eq_true rfl) rfl (fun X hX => ?_)
  unfold js_signum at h
  refine jj_lload_n hX dJ12_signum_0 0 rfl 1 rfl ?_
  refine jj_bipush hX dJ12_signum_1 cb_63 3 rfl ?_
  refine jj_lshr hX dJ12_signum_3 4 rfl ?_
  refine jj_lload_n hX dJ12_signum_4 0 rfl 5 rfl ?_
  refine jj_lneg hX dJ12_signum_5 6 rfl ?_
  refine jj_bipush hX dJ12_signum_6 cb_63 8 rfl ?_
  refine jj_lushr hX dJ12_signum_8 9 rfl ?_
  refine jj_lor hX dJ12_signum_9 10 rfl ?_
  refine jj_l2i hX dJ12_signum_10 11 rfl ?_
  exact jj_reti (post := (fun r (_ : Unit) => Post r)) (u := ()) hX dJ12_signum_11 (Nat.le_refl 0) (Nat.le_refl 0) js_hB h
theorem hd_js_signum : yJ12_signum.cls ≠ "java/lang/invoke/MethodHandle" ∧ yJ12_signum.cls ≠ "java/lang/invoke/VarHandle" ∧ (parseMethodDescriptor yJ12_signum.desc).map (fun d => d.parameters.length) = some 1 := by decide +kernel
theorem kjs_signum {X : JC} {A : Nat → Prop} {Q : State → Prop} {P : Heap → Prop} {nL k n pc : Nat} {lv : List (Nat × Value)} {st : List Value} {own : String} {cc : ByteArray} {ret : Option FieldType} {F LL mc ms ix : Nat} {x0 : Int64} {Post : Int32 → Prop} (hX : JX X own cc nL ret F LL mc ms) (hKP : jj_Keeps P) (hlk : (Cond.methodLink own ix yJ12_signum) ∈ lw_all) (hF : 0 + 1 ≤ F) (hL : 8 + (2 + 11) + 0 ≤ LL) (hk : k ≤ mc) (hk2 : n ≤ ms) (hw : (st.map fun v => v.category).sum ≤ 8) (d : decode cc pc = .ok (.invokestatic ix, 3)) (q : Nat) (hq : pc + 3 = q) (h : js_signum x0 Post) (kk : ∀ r : Int32, Post r → JJ X A Q nL P k n q lv (.int r :: st)) : JJ X A Q nL P k n pc lv (.long x0 :: st) :=
  js_calli (na := 1) (As := [.long x0]) hX hKP (mjs_signum (jj_l X) x0 Post h) hlk q1460 q149 q1461 hd_js_signum rfl rfl hw hF hL hk hk2 d q hq kk
def xw0_fraction_L9_S (Post : Int32 → XS → Prop) (K : XK) (x0 : Nat) (x1 : Int64) (x3 : Int64) (R : Int64 → Int64 → XS → Prop) (x5 : Int64) (x7 : Int64) (u : XS) : Prop :=
  ((lg_cmp x7 (0 : Int64)) = 0 →
    ¬ x5 = 0 ∧
    K x0 = (1, 0) ∧
    ∀ u39 : XS, u39 = xsl u x0 8 (x1 / x5) →
    ¬ x5 = 0 ∧
    ∀ u47 : XS, u47 = xsl u39 x0 9 (x3 / x5) →
    js_signum x1 (fun r51 =>
      Post r51 u47)) ∧
  (¬ (lg_cmp x7 (0 : Int64)) = 0 →
    ¬ x7 = 0 ∧
    ∀ v21 : Int64, v21 = (x5 - x5 / x7 * x7) →
    R x7 v21 u)
def xw0_fraction_L9 (Post : Int32 → XS → Prop) (K : XK) (x0 : Nat) (x1 : Int64) (x3 : Int64) : Nat → Int64 → Int64 → XS → Prop
  | 0 => fun _ _ _ => False
  | n + 1 => fun x5 x7 u => xw0_fraction_L9_S Post K x0 x1 x3 (xw0_fraction_L9 Post K x0 x1 x3 n) x5 x7 u
/-- RaisedPress.fraction(JJ)I -/
def xw0_fraction (x0 : Nat) (x1 : Int64) (x3 : Int64) (K : XK) (u : XS) (Post : Int32 → XS → Prop) : Prop :=
  jw_abs x1 (fun r1 =>
    ∃ n, xw0_fraction_L9 Post K x0 x1 x3 n r1 x3 u)
set_option maxHeartbeats 4000000 in
set_option maxRecDepth 100000 in
theorem txw0_fraction_L9 {X : JC} {D : va_G} {dA aK aV : Nat → Nat} {sz : Nat} {K : XK} {Post : Int32 → XS → Prop} {x0 : Nat} {x1 : Int64} {x3 : Int64} (hX : JX X yX0_fraction.cls cX0_fraction 11 (Option.some Jvm.ClassFile.FieldType.int) 1 21 0 0) (hY : JY X D dA aK aV (AX K sz)) : ∀ (n : Nat) (x5 : Int64) (x7 : Int64) (u : XS), xw0_fraction_L9 Post K x0 x1 x3 n x5 x7 u → JJ X (AX K sz) (jj_Q X (va_Qi (fun (r : Int32) (w : XS) => Post r w) (jx_B D dA K) (AX K sz)) 0 0 (AX K sz)) 11 (XP D dA (AX K sz) K u) 0 0 9 [(0, .ref x0), (1, .long x1), (3, .long x3), (5, .long x5), (7, .long x7)] [] := by
  intro n
  induction n with
  | zero =>
    intro x5 x7 u h
    exact h.elim
  | succ n ih =>
    intro x5 x7 u h
    have h : xw0_fraction_L9_S Post K x0 x1 x3 (xw0_fraction_L9 Post K x0 x1 x3 n) x5 x7 u := h
    unfold xw0_fraction_L9_S at h
    refine jj_lload hX dX0_fraction_9 4 rfl 11 rfl ?_
    refine jj_lconst (v := 0) hX dX0_fraction_11 (by decide) 12 rfl ?_
    refine jj_lcmp hX dX0_fraction_12 13 rfl ?_
    refine jj_if_eq hX dX0_fraction_13 34 16 (by decide) rfl (fun c13 => ?_) (fun c13 => ?_)
    · have h := h.1 c13
      refine jj_aload_n hX dX0_fraction_34 0 rfl 35 rfl ?_
      refine jj_lload_n hX dX0_fraction_35 1 rfl 36 rfl ?_
      refine jj_lload hX dX0_fraction_36 3 rfl 38 rfl ?_
      obtain ⟨hn38, h⟩ := h
      refine jj_ldiv hX dX0_fraction_38 hn38 39 rfl ?_
      obtain ⟨k39, h⟩ := h
      refine xp0_8 hX hY k39 dX0_fraction_39 q419 42 rfl (fun u39 e39 => ?_)
      have h := h u39 e39
      refine jj_aload_n hX dX0_fraction_42 0 rfl 43 rfl ?_
      refine jj_lload_n hX dX0_fraction_43 2 rfl 44 rfl ?_
      refine jj_lload hX dX0_fraction_44 3 rfl 46 rfl ?_
      obtain ⟨hn46, h⟩ := h
      refine jj_ldiv hX dX0_fraction_46 hn46 47 rfl ?_
      refine xp0_9 hX hY k39 dX0_fraction_47 q420 50 rfl (fun u47 e47 => ?_)
      have h := h u47 e47
      refine jj_lload_n hX dX0_fraction_50 1 rfl 51 rfl ?_
      refine kjs_signum hX XP.keeps q1459 (Nat.le_of_ble_eq_true rfl) (Nat.le_of_ble_eq_true rfl) (Nat.zero_le _) (Nat.zero_le _) (Nat.le_of_ble_eq_true rfl) dX0_fraction_51 54 rfl h (fun r51 h => ?_)
      exact jj_reti (post := (fun (r : Int32) (w : XS) => Post r w)) (u := u47) hX dX0_fraction_54 (Nat.le_refl 0) (Nat.le_refl 0) jx_hB h
    · have h := h.2 c13
      refine jj_lload hX dX0_fraction_16 3 rfl 18 rfl ?_
      refine jj_lload hX dX0_fraction_18 4 rfl 20 rfl ?_
      obtain ⟨hn20, h⟩ := h
      refine jj_lrem hX dX0_fraction_20 hn20 21 rfl ?_
      refine jj_topl (fun v21 e21 => ?_)
      have h := h v21 e21
      refine jj_lstore (lv2 := [(0, .ref x0), (1, .long x1), (3, .long x3), (7, .long x7), (9, .long v21)]) hX dX0_fraction_21 (Nat.le_of_ble_eq_true rfl) [1, 2, 3, 5, 0] rfl 23 rfl ?_
      refine jj_lload hX dX0_fraction_23 3 rfl 25 rfl ?_
      refine jj_lstore (lv2 := [(0, .ref x0), (1, .long x1), (3, .long x3), (5, .long x7), (9, .long v21)]) hX dX0_fraction_25 (Nat.le_of_ble_eq_true rfl) [1, 2, 3, 0, 5] rfl 27 rfl ?_
      refine jj_lload hX dX0_fraction_27 4 rfl 29 rfl ?_
      refine jj_lstore (lv2 := [(0, .ref x0), (1, .long x1), (3, .long x3), (5, .long x7), (7, .long v21)]) hX dX0_fraction_29 (Nat.le_of_ble_eq_true rfl) [1, 2, 3, 4, 0] rfl 31 rfl ?_
      refine jj_goto hX dX0_fraction_31 9 (by decide) ?_
      exact ih _ _ _ h
set_option maxHeartbeats 4000000 in
set_option maxRecDepth 100000 in
theorem mxw0_fraction (l : Launch) (hfl : l.stackTraces = false) (D : va_G) (dA aK aV : Nat → Nat) (x0 : Nat) (x1 : Int64) (x3 : Int64) (K : XK) (u : XS) (Post : Int32 → XS → Prop) (h : xw0_fraction x0 x1 x3 K u Post) (sz : Nat) : Met l yX0_fraction (ws_ yX0_fraction cX0_fraction 11 (Option.some Jvm.ClassFile.FieldType.int)) (jx_rm 1 21 0 0) (jx_Pc D dA aK aV K u sz [.ref x0, .long x1, .long x3]) (va_Qi (fun (r : Int32) (w : XS) => Post r w) (jx_B D dA K) (AX K sz)) 0 0 (AX K sz) := by
  refine jx_start hfl [.ref x0, .long x1, .long x3] [(0, .ref x0), (1, .long x1), (3, .long x3)] (by decide) (Nat.le_of_ble_eq_true rfl) rfl (fun X hX hY hin => ?_)
  unfold xw0_fraction at h
  refine jj_lload_n hX dX0_fraction_0 1 rfl 1 rfl ?_
  refine kjw_abs hX XP.keeps q1456 (Nat.le_of_ble_eq_true rfl) (Nat.le_of_ble_eq_true rfl) (Nat.zero_le _) (Nat.zero_le _) (Nat.le_of_ble_eq_true rfl) dX0_fraction_1 4 rfl h (fun r1 h => ?_)
  refine jj_lstore (lv2 := [(0, .ref x0), (1, .long x1), (3, .long x3), (5, .long r1)]) hX dX0_fraction_4 (Nat.le_of_ble_eq_true rfl) [1, 2, 3, 0] rfl 6 rfl ?_
  refine jj_lload_n hX dX0_fraction_6 2 rfl 7 rfl ?_
  refine jj_lstore (lv2 := [(0, .ref x0), (1, .long x1), (3, .long x3), (5, .long r1), (7, .long x3)]) hX dX0_fraction_7 (Nat.le_of_ble_eq_true rfl) [1, 2, 3, 4, 0] rfl 9 rfl ?_
  obtain ⟨n9, h⟩ := h
  exact txw0_fraction_L9 hX hY n9 _ _ _ h
theorem hd_xw0_fraction : yX0_fraction.cls ≠ "java/lang/invoke/MethodHandle" ∧ yX0_fraction.cls ≠ "java/lang/invoke/VarHandle" ∧ (parseMethodDescriptor yX0_fraction.desc).map (fun d => d.parameters.length) = some 2 := by decide +kernel
theorem kxw0_fraction {X : JC} {A : Nat → Prop} {Q : State → Prop} {nL k n pc : Nat} {lv : List (Nat × Value)} {st : List Value} {own : String} {cc : ByteArray} {ret : Option FieldType} {F LL mc ms ix : Nat} {D : va_G} {dA aK aV : Nat → Nat} {K : XK} {u : XS} {x0 : Nat} {x1 : Int64} {x3 : Int64} {Post : Int32 → XS → Prop} (hX : JX X own cc nL ret F LL mc ms) (hY : JY X D dA aK aV A) (h1a : K x0 = (1, 0)) (hlk : (Cond.methodLink own ix yX0_fraction) ∈ lw_all) (hF : 1 + 1 ≤ F) (hL : 8 + (11 + 11) + 21 ≤ LL) (hk : k ≤ mc) (hk2 : n ≤ ms) (hw : (st.map fun v => v.category).sum ≤ 8) (d : decode cc pc = .ok (.invokevirtual ix, 3)) (q : Nat) (hq : pc + 3 = q) (h : xw0_fraction x0 x1 x3 K u  Post) (kk : ∀ (r : Int32) (u2 : XS), Post r u2 → JJ X A Q nL (XP D dA A K u2) k n q lv (.int r :: st)) : JJ X A Q nL (XP D dA A K u) k n pc lv (.long x3 :: .long x1 :: .ref x0 :: st) :=
  jx_callVi (na := 2) (As := [.long x1, .long x3]) hX hY jf0 h1a (fun sz => mxw0_fraction (jj_l X) hY.2.2.2.2 D dA aK aV x0 x1 x3 K u  Post h sz) hlk q1454 qs57 q120 q1455 ⟨rfl, hd_xw0_fraction⟩ rfl rfl hw hF hL hk hk2 d q hq kk
theorem knxw0_fraction {X : JC} {A : Nat → Prop} {Q : State → Prop} {nL k n pc : Nat} {lv : List (Nat × Value)} {st : List Value} {own : String} {cc : ByteArray} {ret : Option FieldType} {F LL mc ms ix : Nat} {D : va_G} {dA aK aV : Nat → Nat} {K : XK} {u : XS} {x0 : Nat} {x1 : Int64} {x3 : Int64} {host : String} {Post : Int32 → XS → Prop} (hX : JX X own cc nL ret F LL mc ms) (hY : JY X D dA aK aV A) (h1a : K x0 = (1, 0)) (hlk : (Cond.methodLinkNest own ix yX0_fraction host) ∈ jx_nest) (hF : 1 + 1 ≤ F) (hL : 8 + (11 + 11) + 21 ≤ LL) (hk : k ≤ mc) (hk2 : n ≤ ms) (hw : (st.map fun v => v.category).sum ≤ 8) (d : decode cc pc = .ok (.invokevirtual ix, 3)) (q : Nat) (hq : pc + 3 = q) (h : xw0_fraction x0 x1 x3 K u  Post) (kk : ∀ (r : Int32) (u2 : XS), Post r u2 → JJ X A Q nL (XP D dA A K u2) k n q lv (.int r :: st)) : JJ X A Q nL (XP D dA A K u) k n pc lv (.long x3 :: .long x1 :: .ref x0 :: st) :=
  jx_callNi (na := 2) (As := [.long x1, .long x3]) hX hY jf0 h1a (fun sz => mxw0_fraction (jj_l X) hY.2.2.2.2 D dA aK aV x0 x1 x3 K u  Post h sz) hlk q1454 qs57 q120 q1455 hd_xw0_fraction rfl rfl hw hF hL hk hk2 d q hq kk
def xw0_odds_L90_S (G68 : Int32 → Int32 → XS → Prop) (Post : Int32 → XS → Prop) (K : XK) (x0 : Nat) (x1 : Int32) (x2 : Int32) (x3 : Int32) (x4 : Int32) (x5 : Int32) (R : Int32 → Int32 → XS → Prop) (x6 : Int32) (x7 : Int32) (u : XS) : Prop :=
  K x0 = (1, 0) ∧
  ∃ b96, (xr u x0 10) = some b96 ∧
  K b96 = (1, 4) ∧
  ∃ b99, (xr u b96 2) = some b99 ∧
  K b99 = (1, 15) ∧
  ∃ b102, (xr u b99 1) = some b102 ∧
  ∃ n102, K b102 = (2, n102) ∧
  ((nI n102) ≤ x7 →
    (x6 = 0 →
      ∀ v163 : Int32, v163 = (x4 + (0 : Int32)) →
      ∀ v165 : Int32, v165 = x5 + (1 : Int32) →
      G68 v163 v165 u) ∧
    (¬ x6 = 0 →
      ∀ v163 : Int32, v163 = (x4 + (1 : Int32)) →
      ∀ v165 : Int32, v165 = x5 + (1 : Int32) →
      G68 v163 v165 u)) ∧
  (¬ (nI n102) ≤ x7 →
    (x6 = 0 →
      ∀ v144 : Int32, v144 = x7 + (1 : Int32) →
      R (0 : Int32) v144 u) ∧
    (¬ x6 = 0 →
      ∃ b115, (xr u x0 10) = some b115 ∧
      K b115 = (1, 4) ∧
      ∃ b118, (xr u b115 2) = some b118 ∧
      K b118 = (1, 15) ∧
      ∃ b123, (xr u b118 1) = some b123 ∧
      ∃ n123, K b123 = (2, n123) ∧
      vp_in x7 n123 ∧
      ((xi u b123 x7.toNatClampNeg) = 0 →
        ∀ v144 : Int32, v144 = x7 + (1 : Int32) →
        R (1 : Int32) v144 u) ∧
      (¬ (xi u b123 x7.toNatClampNeg) = 0 →
        ∃ b133, (xr u x0 24) = some b133 ∧
        ∃ n133, K b133 = (2, n133) ∧
        vp_in x7 n133 ∧
        ((xi u b133 x7.toNatClampNeg) ≤ 0 →
          ∀ v144 : Int32, v144 = x7 + (1 : Int32) →
          R (0 : Int32) v144 u) ∧
        (¬ (xi u b133 x7.toNatClampNeg) ≤ 0 →
          ∀ v144 : Int32, v144 = x7 + (1 : Int32) →
          R (1 : Int32) v144 u))))
def xw0_odds_L90 (G68 : Int32 → Int32 → XS → Prop) (Post : Int32 → XS → Prop) (K : XK) (x0 : Nat) (x1 : Int32) (x2 : Int32) (x3 : Int32) (x4 : Int32) (x5 : Int32) : Nat → Int32 → Int32 → XS → Prop
  | 0 => fun _ _ _ => False
  | n + 1 => fun x6 x7 u => xw0_odds_L90_S G68 Post K x0 x1 x2 x3 x4 x5 (xw0_odds_L90 G68 Post K x0 x1 x2 x3 x4 x5 n) x6 x7 u
def xw0_odds_L68_S (Post : Int32 → XS → Prop) (K : XK) (x0 : Nat) (x1 : Int32) (x2 : Int32) (x3 : Int32) (R : Int32 → Int32 → XS → Prop) (x4 : Int32) (x5 : Int32) (u : XS) : Prop :=
  (x2 ≤ x5 →
    K x0 = (1, 0) ∧
    xw0_fraction x0 x4.toInt64 x2.toInt64 K u (fun r177 u177 =>
      Post (1 : Int32) u177)) ∧
  (¬ x2 ≤ x5 →
    K x0 = (1, 0) ∧
    xw0_wears x0 (x1 + x5) x3 K u (fun r80 u80 =>
      ∃ n, xw0_odds_L90 R Post K x0 x1 x2 x3 x4 x5 n (1 : Int32) (0 : Int32) u80))
def xw0_odds_L68 (Post : Int32 → XS → Prop) (K : XK) (x0 : Nat) (x1 : Int32) (x2 : Int32) (x3 : Int32) : Nat → Int32 → Int32 → XS → Prop
  | 0 => fun _ _ _ => False
  | n + 1 => fun x4 x5 u => xw0_odds_L68_S Post K x0 x1 x2 x3 (xw0_odds_L68 Post K x0 x1 x2 x3 n) x4 x5 u
def xw0_odds_B50 (Post : Int32 → XS → Prop) (K : XK) (x0 : Nat) (x1 : Int32) (x2 : Int32) (x3 : Int32) (s0 : Int32) (s1 : Nat) (u : XS) : Prop :=
  K s1 = (1, 0) ∧
  ∀ u50 : XS, u50 = xsi u s1 7 s0 →
  K x0 = (1, 0) ∧
  ((xi u50 x0 7) ≤ 0 →
    ∃ n, xw0_odds_L68 Post K x0 x1 x2 x3 n (0 : Int32) (0 : Int32) u50) ∧
  (¬ (xi u50 x0 7) ≤ 0 →
    Post (0 : Int32) u50)
/-- RaisedPress.odds(III)Z -/
def xw0_odds (x0 : Nat) (x1 : Int32) (x2 : Int32) (x3 : Int32) (K : XK) (u : XS) (Post : Int32 → XS → Prop) : Prop :=
  xs_isIn x2.toInt64 (1 : Int64) (20 : Int64) (fun r7 =>
    (r7 = 0 →
      xw0_odds_B50 Post K x0 x1 x2 x3 (1 : Int32) x0 u) ∧
    (¬ r7 = 0 →
      xs_isIn x1.toInt64 (0 : Int64) (((9999 : Int32) - x2) + (1 : Int32)).toInt64 (fun r24 =>
        (r24 = 0 →
          xw0_odds_B50 Post K x0 x1 x2 x3 (1 : Int32) x0 u) ∧
        (¬ r24 = 0 →
          xs_isIn x3.toInt64 (0 : Int64) (16 : Int64) (fun r36 =>
            (¬ r36 = 0 →
              K x0 = (1, 0) ∧
              xw0_whyNotSet x0 K u (fun r47 u47 =>
                xw0_odds_B50 Post K x0 x1 x2 x3 r47 x0 u47)) ∧
            (r36 = 0 →
              xw0_odds_B50 Post K x0 x1 x2 x3 (1 : Int32) x0 u))))))
set_option maxHeartbeats 4000000 in
set_option maxRecDepth 100000 in
theorem txw0_odds_L90 {X : JC} {D : va_G} {dA aK aV : Nat → Nat} {sz : Nat} {K : XK} {G68 : Int32 → Int32 → XS → Prop} {Post : Int32 → XS → Prop} {x0 : Nat} {x1 : Int32} {x2 : Int32} {x3 : Int32} {x4 : Int32} {x5 : Int32} (hX : JX X yX0_odds.cls cX0_odds 8 (Option.some Jvm.ClassFile.FieldType.boolean) 2 51 0 0) (hY : JY X D dA aK aV (AX K sz)) (hG68 : ∀ (y4 : Int32) (y5 : Int32) (u : XS), G68 y4 y5 u → JJ X (AX K sz) (jj_Q X (va_Qi (fun (r : Int32) (w : XS) => Post r w ∧ jj_z r) (jx_B D dA K) (AX K sz)) 0 0 (AX K sz)) 8 (XP D dA (AX K sz) K u) 0 0 68 [(0, .ref x0), (1, .int x1), (2, .int x2), (3, .int x3), (4, .int y4), (5, .int y5)] []) : ∀ (n : Nat) (x6 : Int32) (x7 : Int32) (u : XS), xw0_odds_L90 G68 Post K x0 x1 x2 x3 x4 x5 n x6 x7 u → JJ X (AX K sz) (jj_Q X (va_Qi (fun (r : Int32) (w : XS) => Post r w ∧ jj_z r) (jx_B D dA K) (AX K sz)) 0 0 (AX K sz)) 8 (XP D dA (AX K sz) K u) 0 0 90 [(0, .ref x0), (1, .int x1), (2, .int x2), (3, .int x3), (4, .int x4), (5, .int x5), (6, .int x6), (7, .int x7)] [] := by
  intro n
  induction n with
  | zero =>
    intro x6 x7 u h
    exact h.elim
  | succ n ih =>
    intro x6 x7 u h
    have h : xw0_odds_L90_S G68 Post K x0 x1 x2 x3 x4 x5 (xw0_odds_L90 G68 Post K x0 x1 x2 x3 x4 x5 n) x6 x7 u := h
    unfold xw0_odds_L90_S at h
    refine jj_iload hX dX0_odds_90 7 rfl 92 rfl ?_
    refine jj_aload_n hX dX0_odds_92 0 rfl 93 rfl ?_
    obtain ⟨k93, h⟩ := h
    refine xg0_10 hX hY k93 dX0_odds_93 q421 96 rfl ?_
    obtain ⟨b96, g96, h⟩ := h
    refine jj_st (st2 := [.ref b96, .int x7]) (by rw [va_rf_some g96]) ?_
    obtain ⟨k96, h⟩ := h
    refine xgn4_2 hX hY k96 dX0_odds_96 nq319 99 rfl ?_
    obtain ⟨b99, g99, h⟩ := h
    refine jj_st (st2 := [.ref b99, .int x7]) (by rw [va_rf_some g99]) ?_
    obtain ⟨k99, h⟩ := h
    refine xgn15_1 hX hY k99 dX0_odds_99 nq1003 102 rfl ?_
    obtain ⟨b102, g102, h⟩ := h
    refine jj_st (st2 := [.ref b102, .int x7]) (by rw [va_rf_some g102]) ?_
    obtain ⟨n102, k102, h⟩ := h
    refine jx_alen hX hY.1 k102 dX0_odds_102 103 rfl ?_
    refine jj_icmp_ge hX dX0_odds_103 150 106 (by decide) rfl (fun c103 => ?_) (fun c103 => ?_)
    · have h := h.1 c103
      refine jj_iload hX dX0_odds_150 4 rfl 152 rfl ?_
      refine jj_iload hX dX0_odds_152 6 rfl 154 rfl ?_
      refine jj_if_eq hX dX0_odds_154 161 157 (by decide) rfl (fun c154 => ?_) (fun c154 => ?_)
      · have h := h.1 c154
        refine jj_iconst hX dX0_odds_161 ci_0 162 rfl ?_
        refine jj_iadd hX dX0_odds_162 163 rfl ?_
        refine jj_topi (fun v163 e163 => ?_)
        have h := h v163 e163
        refine jj_istore (lv2 := [(0, .ref x0), (1, .int x1), (2, .int x2), (3, .int x3), (4, .int v163), (5, .int x5)]) hX dX0_odds_163 (Nat.le_of_ble_eq_true rfl) [1, 2, 3, 4, 0, 5] rfl 165 rfl ?_
        obtain ⟨v165, e165⟩ : ∃ y : Int32, y = x5 + (1 : Int32) := ⟨_, rfl⟩
        have h := h v165 e165
        refine jj_iinc (v := v165) (lv2 := [(0, .ref x0), (1, .int x1), (2, .int x2), (3, .int x3), (4, .int v163), (5, .int v165)]) hX dX0_odds_165 5 rfl (by rw [e165, ci_1]) (Nat.le_of_ble_eq_true rfl) [1, 2, 3, 4, 5, 0] rfl 168 rfl ?_
        refine jj_goto hX dX0_odds_168 68 (by decide) ?_
        exact hG68 _ _ _ h
      · have h := h.2 c154
        refine jj_iconst hX dX0_odds_157 ci_1 158 rfl ?_
        refine jj_goto hX dX0_odds_158 162 (by decide) ?_
        refine jj_iadd hX dX0_odds_162 163 rfl ?_
        refine jj_topi (fun v163 e163 => ?_)
        have h := h v163 e163
        refine jj_istore (lv2 := [(0, .ref x0), (1, .int x1), (2, .int x2), (3, .int x3), (4, .int v163), (5, .int x5)]) hX dX0_odds_163 (Nat.le_of_ble_eq_true rfl) [1, 2, 3, 4, 0, 5] rfl 165 rfl ?_
        obtain ⟨v165, e165⟩ : ∃ y : Int32, y = x5 + (1 : Int32) := ⟨_, rfl⟩
        have h := h v165 e165
        refine jj_iinc (v := v165) (lv2 := [(0, .ref x0), (1, .int x1), (2, .int x2), (3, .int x3), (4, .int v163), (5, .int v165)]) hX dX0_odds_165 5 rfl (by rw [e165, ci_1]) (Nat.le_of_ble_eq_true rfl) [1, 2, 3, 4, 5, 0] rfl 168 rfl ?_
        refine jj_goto hX dX0_odds_168 68 (by decide) ?_
        exact hG68 _ _ _ h
    · have h := h.2 c103
      refine jj_iload hX dX0_odds_106 6 rfl 108 rfl ?_
      refine jj_if_eq hX dX0_odds_108 141 111 (by decide) rfl (fun c108 => ?_) (fun c108 => ?_)
      · have h := h.1 c108
        refine jj_iconst hX dX0_odds_141 ci_0 142 rfl ?_
        refine jj_istore (lv2 := [(0, .ref x0), (1, .int x1), (2, .int x2), (3, .int x3), (4, .int x4), (5, .int x5), (6, .int (0 : Int32)), (7, .int x7)]) hX dX0_odds_142 (Nat.le_of_ble_eq_true rfl) [1, 2, 3, 4, 5, 6, 0, 7] rfl 144 rfl ?_
        obtain ⟨v144, e144⟩ : ∃ y : Int32, y = x7 + (1 : Int32) := ⟨_, rfl⟩
        have h := h v144 e144
        refine jj_iinc (v := v144) (lv2 := [(0, .ref x0), (1, .int x1), (2, .int x2), (3, .int x3), (4, .int x4), (5, .int x5), (6, .int (0 : Int32)), (7, .int v144)]) hX dX0_odds_144 7 rfl (by rw [e144, ci_1]) (Nat.le_of_ble_eq_true rfl) [1, 2, 3, 4, 5, 6, 7, 0] rfl 147 rfl ?_
        refine jj_goto hX dX0_odds_147 90 (by decide) ?_
        exact ih _ _ _ h
      · have h := h.2 c108
        refine jj_aload_n hX dX0_odds_111 0 rfl 112 rfl ?_
        refine xg0_10 hX hY k93 dX0_odds_112 q421 115 rfl ?_
        obtain ⟨b115, g115, h⟩ := h
        refine jj_st (st2 := [.ref b115]) (by rw [va_rf_some g115]) ?_
        obtain ⟨k115, h⟩ := h
        refine xgn4_2 hX hY k115 dX0_odds_115 nq319 118 rfl ?_
        obtain ⟨b118, g118, h⟩ := h
        refine jj_st (st2 := [.ref b118]) (by rw [va_rf_some g118]) ?_
        obtain ⟨k118, h⟩ := h
        refine xgn15_1 hX hY k118 dX0_odds_118 nq1003 121 rfl ?_
        refine jj_iload hX dX0_odds_121 7 rfl 123 rfl ?_
        obtain ⟨b123, g123, h⟩ := h
        refine jj_st (st2 := [.int x7, .ref b123]) (by rw [va_rf_some g123]) ?_
        obtain ⟨n123, k123, h⟩ := h
        obtain ⟨hi123, h⟩ := h
        refine jx_iald hX hY.1 k123 _ rfl hi123 dX0_odds_123 124 rfl ?_
        refine jj_if_eq hX dX0_odds_124 137 127 (by decide) rfl (fun c124 => ?_) (fun c124 => ?_)
        · have h := h.1 c124
          refine jj_iconst hX dX0_odds_137 ci_1 138 rfl ?_
          refine jj_goto hX dX0_odds_138 142 (by decide) ?_
          refine jj_istore (lv2 := [(0, .ref x0), (1, .int x1), (2, .int x2), (3, .int x3), (4, .int x4), (5, .int x5), (6, .int (1 : Int32)), (7, .int x7)]) hX dX0_odds_142 (Nat.le_of_ble_eq_true rfl) [1, 2, 3, 4, 5, 6, 0, 7] rfl 144 rfl ?_
          obtain ⟨v144, e144⟩ : ∃ y : Int32, y = x7 + (1 : Int32) := ⟨_, rfl⟩
          have h := h v144 e144
          refine jj_iinc (v := v144) (lv2 := [(0, .ref x0), (1, .int x1), (2, .int x2), (3, .int x3), (4, .int x4), (5, .int x5), (6, .int (1 : Int32)), (7, .int v144)]) hX dX0_odds_144 7 rfl (by rw [e144, ci_1]) (Nat.le_of_ble_eq_true rfl) [1, 2, 3, 4, 5, 6, 7, 0] rfl 147 rfl ?_
          refine jj_goto hX dX0_odds_147 90 (by decide) ?_
          exact ih _ _ _ h
        · have h := h.2 c124
          refine jj_aload_n hX dX0_odds_127 0 rfl 128 rfl ?_
          refine xg0_24 hX hY k93 dX0_odds_128 q435 131 rfl ?_
          refine jj_iload hX dX0_odds_131 7 rfl 133 rfl ?_
          obtain ⟨b133, g133, h⟩ := h
          refine jj_st (st2 := [.int x7, .ref b133]) (by rw [va_rf_some g133]) ?_
          obtain ⟨n133, k133, h⟩ := h
          obtain ⟨hi133, h⟩ := h
          refine jx_iald hX hY.1 k133 _ rfl hi133 dX0_odds_133 134 rfl ?_
          refine jj_if_le hX dX0_odds_134 141 137 (by decide) rfl (fun c134 => ?_) (fun c134 => ?_)
          · have h := h.1 c134
            refine jj_iconst hX dX0_odds_141 ci_0 142 rfl ?_
            refine jj_istore (lv2 := [(0, .ref x0), (1, .int x1), (2, .int x2), (3, .int x3), (4, .int x4), (5, .int x5), (6, .int (0 : Int32)), (7, .int x7)]) hX dX0_odds_142 (Nat.le_of_ble_eq_true rfl) [1, 2, 3, 4, 5, 6, 0, 7] rfl 144 rfl ?_
            obtain ⟨v144, e144⟩ : ∃ y : Int32, y = x7 + (1 : Int32) := ⟨_, rfl⟩
            have h := h v144 e144
            refine jj_iinc (v := v144) (lv2 := [(0, .ref x0), (1, .int x1), (2, .int x2), (3, .int x3), (4, .int x4), (5, .int x5), (6, .int (0 : Int32)), (7, .int v144)]) hX dX0_odds_144 7 rfl (by rw [e144, ci_1]) (Nat.le_of_ble_eq_true rfl) [1, 2, 3, 4, 5, 6, 7, 0] rfl 147 rfl ?_
            refine jj_goto hX dX0_odds_147 90 (by decide) ?_
            exact ih _ _ _ h
          · have h := h.2 c134
            refine jj_iconst hX dX0_odds_137 ci_1 138 rfl ?_
            refine jj_goto hX dX0_odds_138 142 (by decide) ?_
            refine jj_istore (lv2 := [(0, .ref x0), (1, .int x1), (2, .int x2), (3, .int x3), (4, .int x4), (5, .int x5), (6, .int (1 : Int32)), (7, .int x7)]) hX dX0_odds_142 (Nat.le_of_ble_eq_true rfl) [1, 2, 3, 4, 5, 6, 0, 7] rfl 144 rfl ?_
            obtain ⟨v144, e144⟩ : ∃ y : Int32, y = x7 + (1 : Int32) := ⟨_, rfl⟩
            have h := h v144 e144
            refine jj_iinc (v := v144) (lv2 := [(0, .ref x0), (1, .int x1), (2, .int x2), (3, .int x3), (4, .int x4), (5, .int x5), (6, .int (1 : Int32)), (7, .int v144)]) hX dX0_odds_144 7 rfl (by rw [e144, ci_1]) (Nat.le_of_ble_eq_true rfl) [1, 2, 3, 4, 5, 6, 7, 0] rfl 147 rfl ?_
            refine jj_goto hX dX0_odds_147 90 (by decide) ?_
            exact ih _ _ _ h
set_option maxHeartbeats 4000000 in
set_option maxRecDepth 100000 in
theorem txw0_odds_L68 {X : JC} {D : va_G} {dA aK aV : Nat → Nat} {sz : Nat} {K : XK} {Post : Int32 → XS → Prop} {x0 : Nat} {x1 : Int32} {x2 : Int32} {x3 : Int32} (hX : JX X yX0_odds.cls cX0_odds 8 (Option.some Jvm.ClassFile.FieldType.boolean) 2 51 0 0) (hY : JY X D dA aK aV (AX K sz)) : ∀ (n : Nat) (x4 : Int32) (x5 : Int32) (u : XS), xw0_odds_L68 Post K x0 x1 x2 x3 n x4 x5 u → JJ X (AX K sz) (jj_Q X (va_Qi (fun (r : Int32) (w : XS) => Post r w ∧ jj_z r) (jx_B D dA K) (AX K sz)) 0 0 (AX K sz)) 8 (XP D dA (AX K sz) K u) 0 0 68 [(0, .ref x0), (1, .int x1), (2, .int x2), (3, .int x3), (4, .int x4), (5, .int x5)] [] := by
  intro n
  induction n with
  | zero =>
    intro x4 x5 u h
    exact h.elim
  | succ n ih =>
    intro x4 x5 u h
    have h : xw0_odds_L68_S Post K x0 x1 x2 x3 (xw0_odds_L68 Post K x0 x1 x2 x3 n) x4 x5 u := h
    unfold xw0_odds_L68_S at h
    refine jj_iload hX dX0_odds_68 5 rfl 70 rfl ?_
    refine jj_iload_n hX dX0_odds_70 2 rfl 71 rfl ?_
    refine jj_icmp_ge hX dX0_odds_71 171 74 (by decide) rfl (fun c71 => ?_) (fun c71 => ?_)
    · have h := h.1 c71
      refine jj_aload_n hX dX0_odds_171 0 rfl 172 rfl ?_
      refine jj_iload hX dX0_odds_172 4 rfl 174 rfl ?_
      refine jj_i2l hX dX0_odds_174 175 rfl ?_
      refine jj_iload_n hX dX0_odds_175 2 rfl 176 rfl ?_
      refine jj_i2l hX dX0_odds_176 177 rfl ?_
      obtain ⟨k177, h⟩ := h
      refine kxw0_fraction hX hY k177 q1452 (Nat.le_of_ble_eq_true rfl) (Nat.le_of_ble_eq_true rfl) (Nat.zero_le _) (Nat.zero_le _) (Nat.le_of_ble_eq_true rfl) dX0_odds_177 180 rfl h (fun r177 u177 h => ?_)
      refine jj_pop hX dX0_odds_180 rfl 181 rfl ?_
      refine jj_iconst hX dX0_odds_181 ci_1 182 rfl ?_
      exact jj_retz (post := (fun (r : Int32) (w : XS) => Post r w)) (u := u177) hX dX0_odds_182 (Nat.le_refl 0) (Nat.le_refl 0) jx_hB jj_z1 h
    · have h := h.2 c71
      refine jj_aload_n hX dX0_odds_74 0 rfl 75 rfl ?_
      refine jj_iload_n hX dX0_odds_75 1 rfl 76 rfl ?_
      refine jj_iload hX dX0_odds_76 5 rfl 78 rfl ?_
      refine jj_iadd hX dX0_odds_78 79 rfl ?_
      refine jj_iload_n hX dX0_odds_79 3 rfl 80 rfl ?_
      obtain ⟨k80, h⟩ := h
      refine kxw0_wears hX hY k80 q1439 (Nat.le_of_ble_eq_true rfl) (Nat.le_of_ble_eq_true rfl) (Nat.zero_le _) (Nat.zero_le _) (Nat.le_of_ble_eq_true rfl) dX0_odds_80 83 rfl h (fun r80 u80 h => ?_)
      refine jj_pop hX dX0_odds_83 rfl 84 rfl ?_
      refine jj_iconst hX dX0_odds_84 ci_1 85 rfl ?_
      refine jj_istore (lv2 := [(0, .ref x0), (1, .int x1), (2, .int x2), (3, .int x3), (4, .int x4), (5, .int x5), (6, .int (1 : Int32))]) hX dX0_odds_85 (Nat.le_of_ble_eq_true rfl) [1, 2, 3, 4, 5, 6, 0] rfl 87 rfl ?_
      refine jj_iconst hX dX0_odds_87 ci_0 88 rfl ?_
      refine jj_istore (lv2 := [(0, .ref x0), (1, .int x1), (2, .int x2), (3, .int x3), (4, .int x4), (5, .int x5), (6, .int (1 : Int32)), (7, .int (0 : Int32))]) hX dX0_odds_88 (Nat.le_of_ble_eq_true rfl) [1, 2, 3, 4, 5, 6, 7, 0] rfl 90 rfl ?_
      obtain ⟨n9, h⟩ := h
      exact txw0_odds_L90 hX hY ih n9 _ _ _ h
set_option maxHeartbeats 4000000 in
set_option maxRecDepth 100000 in
theorem txw0_odds_B50 {X : JC} {D : va_G} {dA aK aV : Nat → Nat} {sz : Nat} {K : XK} {Post : Int32 → XS → Prop} {x0 : Nat} {x1 : Int32} {x2 : Int32} {x3 : Int32} {s0 : Int32} {s1 : Nat} {u : XS} (hX : JX X yX0_odds.cls cX0_odds 8 (Option.some Jvm.ClassFile.FieldType.boolean) 2 51 0 0) (hY : JY X D dA aK aV (AX K sz)) (h : xw0_odds_B50 Post K x0 x1 x2 x3 s0 s1 u) : JJ X (AX K sz) (jj_Q X (va_Qi (fun (r : Int32) (w : XS) => Post r w ∧ jj_z r) (jx_B D dA K) (AX K sz)) 0 0 (AX K sz)) 8 (XP D dA (AX K sz) K u) 0 0 50 [(0, .ref x0), (1, .int x1), (2, .int x2), (3, .int x3)] [.int s0, .ref s1] := by
  unfold xw0_odds_B50 at h
  obtain ⟨k50, h⟩ := h
  refine xp0_7 hX hY k50 dX0_odds_50 q418 53 rfl (fun u50 e50 => ?_)
  have h := h u50 e50
  refine jj_aload_n hX dX0_odds_53 0 rfl 54 rfl ?_
  obtain ⟨k54, h⟩ := h
  refine xg0_7 hX hY k54 dX0_odds_54 q418 57 rfl ?_
  refine jj_if_le hX dX0_odds_57 62 60 (by decide) rfl (fun c57 => ?_) (fun c57 => ?_)
  · have h := h.1 c57
    refine jj_iconst hX dX0_odds_62 ci_0 63 rfl ?_
    refine jj_istore (lv2 := [(0, .ref x0), (1, .int x1), (2, .int x2), (3, .int x3), (4, .int (0 : Int32))]) hX dX0_odds_63 (Nat.le_of_ble_eq_true rfl) [1, 2, 3, 4, 0] rfl 65 rfl ?_
    refine jj_iconst hX dX0_odds_65 ci_0 66 rfl ?_
    refine jj_istore (lv2 := [(0, .ref x0), (1, .int x1), (2, .int x2), (3, .int x3), (4, .int (0 : Int32)), (5, .int (0 : Int32))]) hX dX0_odds_66 (Nat.le_of_ble_eq_true rfl) [1, 2, 3, 4, 5, 0] rfl 68 rfl ?_
    obtain ⟨n9, h⟩ := h
    exact txw0_odds_L68 hX hY n9 _ _ _ h
  · have h := h.2 c57
    refine jj_iconst hX dX0_odds_60 ci_0 61 rfl ?_
    exact jj_retz (post := (fun (r : Int32) (w : XS) => Post r w)) (u := u50) hX dX0_odds_61 (Nat.le_refl 0) (Nat.le_refl 0) jx_hB jj_z0 h
set_option maxHeartbeats 4000000 in
set_option maxRecDepth 100000 in
theorem mxw0_odds (l : Launch) (hfl : l.stackTraces = false) (D : va_G) (dA aK aV : Nat → Nat) (x0 : Nat) (x1 : Int32) (x2 : Int32) (x3 : Int32) (K : XK) (u : XS) (Post : Int32 → XS → Prop) (h : xw0_odds x0 x1 x2 x3 K u Post) (sz : Nat) : Met l yX0_odds (ws_ yX0_odds cX0_odds 8 (Option.some Jvm.ClassFile.FieldType.boolean)) (jx_rm 2 51 0 0) (jx_Pc D dA aK aV K u sz [.ref x0, .int x1, .int x2, .int x3]) (va_Qi (fun (r : Int32) (w : XS) => Post r w ∧ jj_z r) (jx_B D dA K) (AX K sz)) 0 0 (AX K sz) := by
  refine jx_start hfl [.ref x0, .int x1, .int x2, .int x3] [(0, .ref x0), (1, .int x1), (2, .int x2), (3, .int x3)] (by decide) (Nat.le_of_ble_eq_true rfl) rfl (fun X hX hY hin => ?_)
  unfold xw0_odds at h
  refine jj_aload_n hX dX0_odds_0 0 rfl 1 rfl ?_
  refine jj_iload_n hX dX0_odds_1 2 rfl 2 rfl ?_
  refine jj_i2l hX dX0_odds_2 3 rfl ?_
  refine jj_lconst (v := 1) hX dX0_odds_3 (by decide) 4 rfl ?_
  refine jj_ldc2 (v := 20) hX dX0_odds_4 q1318 7 rfl ?_
  refine kxs_isIn hX XP.keeps q1074 (Nat.le_of_ble_eq_true rfl) (Nat.le_of_ble_eq_true rfl) (Nat.zero_le _) (Nat.zero_le _) (Nat.le_of_ble_eq_true rfl) dX0_odds_7 10 rfl h (fun r7 hb7 h => ?_)
  refine jj_if_eq hX dX0_odds_10 42 13 (by decide) rfl (fun c10 => ?_) (fun c10 => ?_)
  · have h := h.1 c10
    refine jj_iconst hX dX0_odds_42 ci_1 43 rfl ?_
    refine jj_goto hX dX0_odds_43 50 (by decide) ?_
    exact txw0_odds_B50 hX hY h
  · have h := h.2 c10
    refine jj_iload_n hX dX0_odds_13 1 rfl 14 rfl ?_
    refine jj_i2l hX dX0_odds_14 15 rfl ?_
    refine jj_lconst (v := 0) hX dX0_odds_15 (by decide) 16 rfl ?_
    refine jj_sipush hX dX0_odds_16 cs_9999 19 rfl ?_
    refine jj_iload_n hX dX0_odds_19 2 rfl 20 rfl ?_
    refine jj_isub hX dX0_odds_20 21 rfl ?_
    refine jj_iconst hX dX0_odds_21 ci_1 22 rfl ?_
    refine jj_iadd hX dX0_odds_22 23 rfl ?_
    refine jj_i2l hX dX0_odds_23 24 rfl ?_
    refine kxs_isIn hX XP.keeps q1074 (Nat.le_of_ble_eq_true rfl) (Nat.le_of_ble_eq_true rfl) (Nat.zero_le _) (Nat.zero_le _) (Nat.le_of_ble_eq_true rfl) dX0_odds_24 27 rfl h (fun r24 hb24 h => ?_)
    refine jj_if_eq hX dX0_odds_27 42 30 (by decide) rfl (fun c27 => ?_) (fun c27 => ?_)
    · have h := h.1 c27
      refine jj_iconst hX dX0_odds_42 ci_1 43 rfl ?_
      refine jj_goto hX dX0_odds_43 50 (by decide) ?_
      exact txw0_odds_B50 hX hY h
    · have h := h.2 c27
      refine jj_iload_n hX dX0_odds_30 3 rfl 31 rfl ?_
      refine jj_i2l hX dX0_odds_31 32 rfl ?_
      refine jj_lconst (v := 0) hX dX0_odds_32 (by decide) 33 rfl ?_
      refine jj_ldc2 (v := 16) hX dX0_odds_33 q1438 36 rfl ?_
      refine kxs_isIn hX XP.keeps q1074 (Nat.le_of_ble_eq_true rfl) (Nat.le_of_ble_eq_true rfl) (Nat.zero_le _) (Nat.zero_le _) (Nat.le_of_ble_eq_true rfl) dX0_odds_36 39 rfl h (fun r36 hb36 h => ?_)
      refine jj_if_ne hX dX0_odds_39 46 42 (by decide) rfl (fun c39 => ?_) (fun c39 => ?_)
      · have h := h.1 c39
        refine jj_aload_n hX dX0_odds_46 0 rfl 47 rfl ?_
        obtain ⟨k47, h⟩ := h
        refine kxw0_whyNotSet hX hY k47 q1111 (Nat.le_of_ble_eq_true rfl) (Nat.le_of_ble_eq_true rfl) (Nat.zero_le _) (Nat.zero_le _) (Nat.le_of_ble_eq_true rfl) dX0_odds_47 50 rfl h (fun r47 u47 h => ?_)
        exact txw0_odds_B50 hX hY h
      · have h := h.2 c39
        refine jj_iconst hX dX0_odds_42 ci_1 43 rfl ?_
        refine jj_goto hX dX0_odds_43 50 (by decide) ?_
        exact txw0_odds_B50 hX hY h
theorem hd_xw0_odds : yX0_odds.cls ≠ "java/lang/invoke/MethodHandle" ∧ yX0_odds.cls ≠ "java/lang/invoke/VarHandle" ∧ (parseMethodDescriptor yX0_odds.desc).map (fun d => d.parameters.length) = some 3 := by decide +kernel
theorem kxw0_odds {X : JC} {A : Nat → Prop} {Q : State → Prop} {nL k n pc : Nat} {lv : List (Nat × Value)} {st : List Value} {own : String} {cc : ByteArray} {ret : Option FieldType} {F LL mc ms ix : Nat} {D : va_G} {dA aK aV : Nat → Nat} {K : XK} {u : XS} {x0 : Nat} {x1 : Int32} {x2 : Int32} {x3 : Int32} {Post : Int32 → XS → Prop} (hX : JX X own cc nL ret F LL mc ms) (hY : JY X D dA aK aV A) (h1a : K x0 = (1, 0)) (hlk : (Cond.methodLink own ix yX0_odds) ∈ lw_all) (hF : 2 + 1 ≤ F) (hL : 8 + (8 + 11) + 51 ≤ LL) (hk : k ≤ mc) (hk2 : n ≤ ms) (hw : (st.map fun v => v.category).sum ≤ 8) (d : decode cc pc = .ok (.invokevirtual ix, 3)) (q : Nat) (hq : pc + 3 = q) (h : xw0_odds x0 x1 x2 x3 K u  Post) (kk : ∀ (r : Int32) (u2 : XS), jj_z r → Post r u2 → JJ X A Q nL (XP D dA A K u2) k n q lv (.int r :: st)) : JJ X A Q nL (XP D dA A K u) k n pc lv (.int x3 :: .int x2 :: .int x1 :: .ref x0 :: st) :=
  jx_callVz (na := 3) (As := [.int x1, .int x2, .int x3]) hX hY jf0 h1a (fun sz => mxw0_odds (jj_l X) hY.2.2.2.2 D dA aK aV x0 x1 x2 x3 K u  Post h sz) hlk q1449 q1450 q120 q1451 ⟨rfl, hd_xw0_odds⟩ rfl rfl hw hF hL hk hk2 d q hq kk
theorem knxw0_odds {X : JC} {A : Nat → Prop} {Q : State → Prop} {nL k n pc : Nat} {lv : List (Nat × Value)} {st : List Value} {own : String} {cc : ByteArray} {ret : Option FieldType} {F LL mc ms ix : Nat} {D : va_G} {dA aK aV : Nat → Nat} {K : XK} {u : XS} {x0 : Nat} {x1 : Int32} {x2 : Int32} {x3 : Int32} {host : String} {Post : Int32 → XS → Prop} (hX : JX X own cc nL ret F LL mc ms) (hY : JY X D dA aK aV A) (h1a : K x0 = (1, 0)) (hlk : (Cond.methodLinkNest own ix yX0_odds host) ∈ jx_nest) (hF : 2 + 1 ≤ F) (hL : 8 + (8 + 11) + 51 ≤ LL) (hk : k ≤ mc) (hk2 : n ≤ ms) (hw : (st.map fun v => v.category).sum ≤ 8) (d : decode cc pc = .ok (.invokevirtual ix, 3)) (q : Nat) (hq : pc + 3 = q) (h : xw0_odds x0 x1 x2 x3 K u  Post) (kk : ∀ (r : Int32) (u2 : XS), jj_z r → Post r u2 → JJ X A Q nL (XP D dA A K u2) k n q lv (.int r :: st)) : JJ X A Q nL (XP D dA A K u) k n pc lv (.int x3 :: .int x2 :: .int x1 :: .ref x0 :: st) :=
  jx_callNz (na := 3) (As := [.int x1, .int x2, .int x3]) hX hY jf0 h1a (fun sz => mxw0_odds (jj_l X) hY.2.2.2.2 D dA aK aV x0 x1 x2 x3 K u  Post h sz) hlk q1449 q1450 q120 q1451 hd_xw0_odds rfl rfl hw hF hL hk hk2 d q hq kk
/-- RaisedPress$House.be(LRaisedPress$House;)V -/
def xw4_be (x0 : Nat) (x1 : Nat) (K : XK) (u : XS) (Post : XS → Prop) : Prop :=
  K x1 = (1, 4) ∧
  K x0 = (1, 4) ∧
  ∀ u5 : XS, u5 = xsr u x0 0 (xr u x1 0) →
  ∀ u13 : XS, u13 = xsi u5 x0 1 (xi u5 x1 1) →
  ∀ u21 : XS, u21 = xsr u13 x0 2 (xr u13 x1 2) →
  Post u21
set_option maxHeartbeats 4000000 in
set_option maxRecDepth 100000 in
theorem mxw4_be (l : Launch) (hfl : l.stackTraces = false) (D : va_G) (dA aK aV : Nat → Nat) (x0 : Nat) (x1 : Nat) (K : XK) (u : XS) (Post : XS → Prop) (h : xw4_be x0 x1 K u Post) (sz : Nat) : Met l yX4_be (ws_ yX4_be cX4_be 2 (Option.none : Option Jvm.ClassFile.FieldType)) (jx_rm 0 0 0 0) (jx_Pc D dA aK aV K u sz [.ref x0, .ref x1]) (va_Qv (fun w : XS => Post w) (jx_B D dA K) (AX K sz)) 0 0 (AX K sz) := by
  refine jx_start hfl [.ref x0, .ref x1] [(0, .ref x0), (1, .ref x1)] (by decide) (Nat.le_of_ble_eq_true rfl) rfl (fun X hX hY hin => ?_)
  unfold xw4_be at h
  refine jj_aload_n hX dX4_be_0 0 rfl 1 rfl ?_
  refine jj_aload_n hX dX4_be_1 1 rfl 2 rfl ?_
  obtain ⟨k2, h⟩ := h
  refine xg4_0 hX hY k2 dX4_be_2 q314 5 rfl ?_
  obtain ⟨k5, h⟩ := h
  refine xp4_0 (v := (xr u x1 0)) hX hY k5 dX4_be_5 q314 8 rfl (fun u5 e5 => ?_)
  have h := h u5 e5
  refine jj_aload_n hX dX4_be_8 0 rfl 9 rfl ?_
  refine jj_aload_n hX dX4_be_9 1 rfl 10 rfl ?_
  refine xg4_1 hX hY k2 dX4_be_10 q316 13 rfl ?_
  refine xp4_1 hX hY k5 dX4_be_13 q316 16 rfl (fun u13 e13 => ?_)
  have h := h u13 e13
  refine jj_aload_n hX dX4_be_16 0 rfl 17 rfl ?_
  refine jj_aload_n hX dX4_be_17 1 rfl 18 rfl ?_
  refine xg4_2 hX hY k2 dX4_be_18 q318 21 rfl ?_
  refine xp4_2 (v := (xr u13 x1 2)) hX hY k5 dX4_be_21 q318 24 rfl (fun u21 e21 => ?_)
  have h := h u21 e21
  exact jj_retv (post := (fun w : XS => Post w)) (u := u21) hX dX4_be_24 (Nat.le_refl 0) (Nat.le_refl 0) jx_hB h
theorem hd_xw4_be : yX4_be.cls ≠ "java/lang/invoke/MethodHandle" ∧ yX4_be.cls ≠ "java/lang/invoke/VarHandle" ∧ (parseMethodDescriptor yX4_be.desc).map (fun d => d.parameters.length) = some 1 := by decide +kernel
theorem kxw4_be {X : JC} {A : Nat → Prop} {Q : State → Prop} {nL k n pc : Nat} {lv : List (Nat × Value)} {st : List Value} {own : String} {cc : ByteArray} {ret : Option FieldType} {F LL mc ms ix : Nat} {D : va_G} {dA aK aV : Nat → Nat} {K : XK} {u : XS} {x0 : Nat} {x1 : Nat} {Post : XS → Prop} (hX : JX X own cc nL ret F LL mc ms) (hY : JY X D dA aK aV A) (h1a : K x0 = (1, 4)) (hlk : (Cond.methodLink own ix yX4_be) ∈ lw_all) (hF : 0 + 1 ≤ F) (hL : 8 + (2 + 11) + 0 ≤ LL) (hk : k ≤ mc) (hk2 : n ≤ ms) (hw : (st.map fun v => v.category).sum ≤ 8) (d : decode cc pc = .ok (.invokevirtual ix, 3)) (q : Nat) (hq : pc + 3 = q) (h : xw4_be x0 x1 K u  Post) (kk : ∀ (u2 : XS), Post u2 → JJ X A Q nL (XP D dA A K u2) k n q lv (st)) : JJ X A Q nL (XP D dA A K u) k n pc lv (.ref x1 :: .ref x0 :: st) :=
  jx_callVv (na := 1) (As := [.ref x1]) hX hY jf4 h1a (fun sz => mxw4_be (jj_l X) hY.2.2.2.2 D dA aK aV x0 x1 K u  Post h sz) hlk q1467 q1468 q126 q1469 ⟨rfl, hd_xw4_be⟩ rfl rfl hw hF hL hk hk2 d q hq kk
theorem knxw4_be {X : JC} {A : Nat → Prop} {Q : State → Prop} {nL k n pc : Nat} {lv : List (Nat × Value)} {st : List Value} {own : String} {cc : ByteArray} {ret : Option FieldType} {F LL mc ms ix : Nat} {D : va_G} {dA aK aV : Nat → Nat} {K : XK} {u : XS} {x0 : Nat} {x1 : Nat} {host : String} {Post : XS → Prop} (hX : JX X own cc nL ret F LL mc ms) (hY : JY X D dA aK aV A) (h1a : K x0 = (1, 4)) (hlk : (Cond.methodLinkNest own ix yX4_be host) ∈ jx_nest) (hF : 0 + 1 ≤ F) (hL : 8 + (2 + 11) + 0 ≤ LL) (hk : k ≤ mc) (hk2 : n ≤ ms) (hw : (st.map fun v => v.category).sum ≤ 8) (d : decode cc pc = .ok (.invokevirtual ix, 3)) (q : Nat) (hq : pc + 3 = q) (h : xw4_be x0 x1 K u  Post) (kk : ∀ (u2 : XS), Post u2 → JJ X A Q nL (XP D dA A K u2) k n q lv (st)) : JJ X A Q nL (XP D dA A K u) k n pc lv (.ref x1 :: .ref x0 :: st) :=
  jx_callNv (na := 1) (As := [.ref x1]) hX hY jf4 h1a (fun sz => mxw4_be (jj_l X) hY.2.2.2.2 D dA aK aV x0 x1 K u  Post h sz) hlk q1467 q1468 q126 q1469 hd_xw4_be rfl rfl hw hF hL hk hk2 d q hq kk
def xw0_mark_B54 (Post : Int32 → XK → XS → Prop) (mc ms : Nat) (x0 : Nat) (K : XK) (u : XS) (c s : Nat) : Prop :=
  K x0 = (1, 0) ∧
  ∃ b62, (xr u x0 11) = some b62 ∧
  ∃ n62, K b62 = (8, n62) ∧
  vp_in (xi u x0 12) n62 ∧
  ∃ b67, (xr u x0 10) = some b67 ∧
  ∃ b67_1, (xr u b62 (xi u x0 12).toNatClampNeg) = some b67_1 ∧
  K b67_1 = (1, 4) ∧
  xw4_be b67_1 b67 K u (fun u67 =>
    ∀ u77 : XS, u77 = xsi u67 x0 12 ((xi u67 x0 12) + (1 : Int32)) →
    Post (xi u77 x0 12) K u77)
def xw0_mark_B14 (Post : Int32 → XK → XS → Prop) (mc ms : Nat) (x0 : Nat) (s0 : Int32) (s1 : Nat) (K : XK) (u : XS) (c s : Nat) : Prop :=
  K s1 = (1, 0) ∧
  ∀ u14 : XS, u14 = xsi u s1 7 s0 →
  K x0 = (1, 0) ∧
  ((xi u14 x0 7) ≤ 0 →
    ∃ b34, (xr u14 x0 11) = some b34 ∧
    ∃ n34, K b34 = (8, n34) ∧
    vp_in (xi u14 x0 12) n34 ∧
    (¬ (xr u14 b34 (xi u14 x0 12).toNatClampNeg) = none →
      xw0_mark_B54 Post mc ms x0 K u14 c s) ∧
    ((xr u14 b34 (xi u14 x0 12).toNatClampNeg) = none →
      (c + 1) ≤ mc ∧ (s + 3) ≤ ms ∧ ∀ (b46 : Nat) (K46 : XK) (u46 : XS), (K b46).1 = 0 → K46 = xup K b46 (1, 4) → u46 = xz u14 b46 →
      ∃ m50 w50, ((c + 1) + m50) ≤ mc ∧ ((s + 3) + w50) ≤ ms ∧ xw4_init b46 K46 u46 m50 w50 (fun K50 u50 =>
        ∃ b53, (xr u14 x0 11) = some b53 ∧
        ∃ n53, K50 b53 = (8, n53) ∧
        vp_in (xi u14 x0 12) n53 ∧
        ∀ u53 : XS, u53 = xsr u50 b53 (xi u14 x0 12).toNatClampNeg (some b46) →
        xw0_mark_B54 Post mc ms x0 K50 u53 ((c + 1) + m50) ((s + 3) + w50)))) ∧
  (¬ (xi u14 x0 7) ≤ 0 →
    Post (-1 : Int32) K u14)
/-- RaisedPress.mark()I -/
def xw0_mark (x0 : Nat) (K : XK) (u : XS) (mc ms : Nat) (Post : Int32 → XK → XS → Prop) : Prop :=
  K x0 = (1, 0) ∧
  (¬ (xi u x0 12) = (3 : Int32) →
    xw0_mark_B14 Post mc ms x0 (0 : Int32) x0 K u 0 0) ∧
  ((xi u x0 12) = (3 : Int32) →
    xw0_mark_B14 Post mc ms x0 (4 : Int32) x0 K u 0 0)
set_option maxHeartbeats 4000000 in
set_option maxRecDepth 100000 in
theorem txw0_mark_B54 {X : JC} {D : va_G} {dA aK aV : Nat → Nat} {sz : Nat} {K0 : XK} {mc ms : Nat} {Post : Int32 → XK → XS → Prop} {x0 : Nat} {K : XK} {u : XS} {c s : Nat} (hX : JX X yX0_mark.cls cX0_mark 1 (Option.some Jvm.ClassFile.FieldType.int) 3 60 mc ms) (hY : JY X D dA aK aV (AX K0 sz)) (hl : XLe K0 K) (hc : c ≤ mc) (hs : s ≤ ms) (h : xw0_mark_B54 Post mc ms x0  K u c s) : JJ X (AX K0 sz) (jj_Q X (va_Qi (fun (r : Int32) (w : XK × XS) => Post r w.1 w.2) (jx_BA D dA K0 sz) (AX K0 sz)) mc ms (AX K0 sz)) 1 (XP D dA (AX K0 sz) K u) c s 54 [(0, .ref x0)] [] := by
  unfold xw0_mark_B54 at h
  refine jj_aload_n hX dX0_mark_54 0 rfl 55 rfl ?_
  obtain ⟨k55, h⟩ := h
  refine xg0_11 hX hY k55 dX0_mark_55 q422 58 rfl ?_
  refine jj_aload_n hX dX0_mark_58 0 rfl 59 rfl ?_
  refine xg0_12 hX hY k55 dX0_mark_59 q423 62 rfl ?_
  obtain ⟨b62, g62, h⟩ := h
  refine jj_st (st2 := [.int (xi u x0 12), .ref b62]) (by rw [va_rf_some g62]) ?_
  obtain ⟨n62, k62, h⟩ := h
  obtain ⟨hi62, h⟩ := h
  refine jx_aald6 hX hY.1 k62 _ rfl hi62 dX0_mark_62 63 rfl ?_
  refine jj_aload_n hX dX0_mark_63 0 rfl 64 rfl ?_
  refine xg0_10 hX hY k55 dX0_mark_64 q421 67 rfl ?_
  obtain ⟨b67, g67, h⟩ := h
  refine jj_st (st2 := [.ref b67, va_rf (xr u b62 (xi u x0 12).toNatClampNeg)]) (by rw [va_rf_some g67]) ?_
  obtain ⟨b67_1, g67_1, h⟩ := h
  refine jj_st (st2 := [.ref b67, .ref b67_1]) (by rw [va_rf_some g67_1]) ?_
  obtain ⟨k67, h⟩ := h
  refine kxw4_be hX hY k67 q1466 (Nat.le_of_ble_eq_true rfl) (Nat.le_of_ble_eq_true rfl) hc hs (Nat.le_of_ble_eq_true rfl) dX0_mark_67 70 rfl h (fun u67 h => ?_)
  refine jj_aload_n hX dX0_mark_70 0 rfl 71 rfl ?_
  refine jj_dup hX dX0_mark_71 rfl 72 rfl ?_
  refine xg0_12 hX hY k55 dX0_mark_72 q423 75 rfl ?_
  refine jj_iconst hX dX0_mark_75 ci_1 76 rfl ?_
  refine jj_iadd hX dX0_mark_76 77 rfl ?_
  refine xp0_12 hX hY k55 dX0_mark_77 q423 80 rfl (fun u77 e77 => ?_)
  have h := h u77 e77
  refine jj_aload_n hX dX0_mark_80 0 rfl 81 rfl ?_
  refine xg0_12 hX hY k55 dX0_mark_81 q423 84 rfl ?_
  exact jj_reti (post := (fun (r : Int32) (w : XK × XS) => Post r w.1 w.2)) (u := (K, u77)) hX dX0_mark_84 hc hs (jx_hBA hl) h
set_option maxHeartbeats 4000000 in
set_option maxRecDepth 100000 in
theorem txw0_mark_B14 {X : JC} {D : va_G} {dA aK aV : Nat → Nat} {sz : Nat} {K0 : XK} {mc ms : Nat} {Post : Int32 → XK → XS → Prop} {x0 : Nat} {s0 : Int32} {s1 : Nat} {K : XK} {u : XS} {c s : Nat} (hX : JX X yX0_mark.cls cX0_mark 1 (Option.some Jvm.ClassFile.FieldType.int) 3 60 mc ms) (hY : JY X D dA aK aV (AX K0 sz)) (hl : XLe K0 K) (hc : c ≤ mc) (hs : s ≤ ms) (h : xw0_mark_B14 Post mc ms x0 s0 s1 K u c s) : JJ X (AX K0 sz) (jj_Q X (va_Qi (fun (r : Int32) (w : XK × XS) => Post r w.1 w.2) (jx_BA D dA K0 sz) (AX K0 sz)) mc ms (AX K0 sz)) 1 (XP D dA (AX K0 sz) K u) c s 14 [(0, .ref x0)] [.int s0, .ref s1] := by
  unfold xw0_mark_B14 at h
  obtain ⟨k14, h⟩ := h
  refine xp0_7 hX hY k14 dX0_mark_14 q418 17 rfl (fun u14 e14 => ?_)
  have h := h u14 e14
  refine jj_aload_n hX dX0_mark_17 0 rfl 18 rfl ?_
  obtain ⟨k18, h⟩ := h
  refine xg0_7 hX hY k18 dX0_mark_18 q418 21 rfl ?_
  refine jj_if_le hX dX0_mark_21 26 24 (by decide) rfl (fun c21 => ?_) (fun c21 => ?_)
  · have h := h.1 c21
    refine jj_aload_n hX dX0_mark_26 0 rfl 27 rfl ?_
    refine xg0_11 hX hY k18 dX0_mark_27 q422 30 rfl ?_
    refine jj_aload_n hX dX0_mark_30 0 rfl 31 rfl ?_
    refine xg0_12 hX hY k18 dX0_mark_31 q423 34 rfl ?_
    obtain ⟨b34, g34, h⟩ := h
    refine jj_st (st2 := [.int (xi u14 x0 12), .ref b34]) (by rw [va_rf_some g34]) ?_
    obtain ⟨n34, k34, h⟩ := h
    obtain ⟨hi34, h⟩ := h
    refine jx_aald6 hX hY.1 k34 _ rfl hi34 dX0_mark_34 35 rfl ?_
    refine jj_ifnonnull (r := (xr u14 b34 (xi u14 x0 12).toNatClampNeg)) hX dX0_mark_35 54 38 (by decide) rfl (fun c35 => ?_) (fun c35 => ?_)
    · have h := h.1 c35
      exact txw0_mark_B54 hX hY hl hc hs h
    · have h := h.2 c35
      refine jj_aload_n hX dX0_mark_38 0 rfl 39 rfl ?_
      refine xg0_11 hX hY k18 dX0_mark_39 q422 42 rfl ?_
      refine jj_aload_n hX dX0_mark_42 0 rfl 43 rfl ?_
      refine xg0_12 hX hY k18 dX0_mark_43 q423 46 rfl ?_
      obtain ⟨hc46, hs46, h⟩ := h
      refine jx_new hX hY jf4 jd4 q259 q260 q126 hc46 hs46 dX0_mark_46 49 rfl (fun b46 K46 u46 hb46 eK46 e46 => ?_)
      have h := h b46 K46 u46 hb46 eK46 e46
      have hleb46 : XLe K K46 := by rw [eK46]; exact XLe.up hb46
      have k46 := hleb46.at k14 (by simp)
      have k46_1 := hleb46.at k18 (by simp)
      have k46_2 := hleb46.at k34 (by simp)
      have hl46 := hl.tr hleb46
      have k46_3 : K46 b46 = (1, 4) := by rw [eK46]; exact xup_at
      refine jj_cs (k2 := (c + 1)) (n2 := (s + 3)) rfl rfl ?_
      refine jj_dup hX dX0_mark_49 rfl 50 rfl ?_
      obtain ⟨m50, w50, hc50, hs50, h⟩ := h
      refine knxw4_init hX hY nq261 (Nat.le_of_ble_eq_true rfl) (Nat.le_of_ble_eq_true rfl) hc50 hs50 (by simp [jx_rfc, jx_c1, jx_c2, jx_c3, jx_c4]) dX0_mark_50 53 rfl h (fun K50 u50 hle50 h => ?_)
      have k50 := hle50.at k46 (by simp)
      have k50_1 := hle50.at k46_1 (by simp)
      have k50_2 := hle50.at k46_2 (by simp)
      have k50_3 := hle50.at k46_3 (by simp)
      have hl50 := hl46.tr hle50
      refine jj_cs (k2 := ((c + 1) + m50)) (n2 := ((s + 3) + w50)) (by simp) (by simp) ?_
      obtain ⟨b53, g53, h⟩ := h
      refine jj_st (st2 := [.ref b46, .int (xi u14 x0 12), .ref b53]) (by rw [va_rf_some g53]) ?_
      obtain ⟨n53, k53, h⟩ := h
      obtain ⟨hi53, h⟩ := h
      refine jx_aast6 hX hY k53 k50_3 _ rfl hi53 dX0_mark_53 54 rfl (fun u53 e53 => ?_)
      have h := h u53 e53
      exact txw0_mark_B54 hX hY hl50 hc50 hs50 h
  · have h := h.2 c21
    refine jj_iconst hX dX0_mark_24 ci_m1 25 rfl ?_
    exact jj_reti (post := (fun (r : Int32) (w : XK × XS) => Post r w.1 w.2)) (u := (K, u14)) hX dX0_mark_25 hc hs (jx_hBA hl) h
set_option maxHeartbeats 4000000 in
set_option maxRecDepth 100000 in
theorem mxw0_mark (l : Launch) (hfl : l.stackTraces = false) (D : va_G) (dA aK aV : Nat → Nat) (x0 : Nat) (K : XK) (u : XS) (mc ms : Nat) (Post : Int32 → XK → XS → Prop) (h : xw0_mark x0 K u mc ms Post) (sz : Nat) : Met l yX0_mark (ws_ yX0_mark cX0_mark 1 (Option.some Jvm.ClassFile.FieldType.int)) (jx_rm 3 60 mc ms) (jx_Pc D dA aK aV K u sz [.ref x0]) (va_Qi (fun (r : Int32) (w : XK × XS) => Post r w.1 w.2) (jx_BA D dA K sz) (AX K sz)) mc ms (AX K sz) := by
  refine jx_start hfl [.ref x0] [(0, .ref x0)] (by decide) (Nat.le_of_ble_eq_true rfl) rfl (fun X hX hY hin => ?_)
  unfold xw0_mark at h
  refine jj_aload_n hX dX0_mark_0 0 rfl 1 rfl ?_
  refine jj_aload_n hX dX0_mark_1 0 rfl 2 rfl ?_
  obtain ⟨k2, h⟩ := h
  refine xg0_12 hX hY k2 dX0_mark_2 q423 5 rfl ?_
  refine jj_iconst hX dX0_mark_5 ci_3 6 rfl ?_
  refine jj_icmp_ne hX dX0_mark_6 13 9 (by decide) rfl (fun c6 => ?_) (fun c6 => ?_)
  · have h := h.1 c6
    refine jj_iconst hX dX0_mark_13 ci_0 14 rfl ?_
    exact txw0_mark_B14 hX hY XLe.rf (Nat.zero_le _) (Nat.zero_le _) h
  · have h := h.2 c6
    refine jj_iconst hX dX0_mark_9 ci_4 10 rfl ?_
    refine jj_goto hX dX0_mark_10 14 (by decide) ?_
    exact txw0_mark_B14 hX hY XLe.rf (Nat.zero_le _) (Nat.zero_le _) h
theorem hd_xw0_mark : yX0_mark.cls ≠ "java/lang/invoke/MethodHandle" ∧ yX0_mark.cls ≠ "java/lang/invoke/VarHandle" ∧ (parseMethodDescriptor yX0_mark.desc).map (fun d => d.parameters.length) = some 0 := by decide +kernel
theorem kxw0_mark {X : JC} {A : Nat → Prop} {Q : State → Prop} {nL k n pc : Nat} {lv : List (Nat × Value)} {st : List Value} {own : String} {cc : ByteArray} {ret : Option FieldType} {F LL mc ms ix mc2 ms2 : Nat} {D : va_G} {dA aK aV : Nat → Nat} {K : XK} {u : XS} {x0 : Nat} {Post : Int32 → XK → XS → Prop} (hX : JX X own cc nL ret F LL mc ms) (hY : JY X D dA aK aV A) (h1a : K x0 = (1, 0)) (hlk : (Cond.methodLink own ix yX0_mark) ∈ lw_all) (hF : 3 + 1 ≤ F) (hL : 8 + (1 + 11) + 60 ≤ LL) (hk : k + mc2 ≤ mc) (hk2 : n + ms2 ≤ ms) (hw : (st.map fun v => v.category).sum ≤ 8) (d : decode cc pc = .ok (.invokevirtual ix, 3)) (q : Nat) (hq : pc + 3 = q) (h : xw0_mark x0 K u mc2 ms2 Post) (kk : ∀ (r : Int32) (K2 : XK) (u2 : XS), XLe K K2 → Post r K2 u2 → JJ X A Q nL (XP D dA A K2 u2) (k + mc2) (n + ms2) q lv (.int r :: st)) : JJ X A Q nL (XP D dA A K u) k n pc lv (.ref x0 :: st) :=
  jx_callViA (na := 0) (As := []) hX hY jf0 h1a (fun sz => mxw0_mark (jj_l X) hY.2.2.2.2 D dA aK aV x0 K u mc2 ms2 Post h sz) hlk q1463 q1464 q120 q1465 ⟨rfl, hd_xw0_mark⟩ rfl rfl hw hF hL hk hk2 d q hq kk
theorem knxw0_mark {X : JC} {A : Nat → Prop} {Q : State → Prop} {nL k n pc : Nat} {lv : List (Nat × Value)} {st : List Value} {own : String} {cc : ByteArray} {ret : Option FieldType} {F LL mc ms ix mc2 ms2 : Nat} {D : va_G} {dA aK aV : Nat → Nat} {K : XK} {u : XS} {x0 : Nat} {host : String} {Post : Int32 → XK → XS → Prop} (hX : JX X own cc nL ret F LL mc ms) (hY : JY X D dA aK aV A) (h1a : K x0 = (1, 0)) (hlk : (Cond.methodLinkNest own ix yX0_mark host) ∈ jx_nest) (hF : 3 + 1 ≤ F) (hL : 8 + (1 + 11) + 60 ≤ LL) (hk : k + mc2 ≤ mc) (hk2 : n + ms2 ≤ ms) (hw : (st.map fun v => v.category).sum ≤ 8) (d : decode cc pc = .ok (.invokevirtual ix, 3)) (q : Nat) (hq : pc + 3 = q) (h : xw0_mark x0 K u mc2 ms2 Post) (kk : ∀ (r : Int32) (K2 : XK) (u2 : XS), XLe K K2 → Post r K2 u2 → JJ X A Q nL (XP D dA A K2 u2) (k + mc2) (n + ms2) q lv (.int r :: st)) : JJ X A Q nL (XP D dA A K u) k n pc lv (.ref x0 :: st) :=
  jx_callNiA (na := 0) (As := []) hX hY jf0 h1a (fun sz => mxw0_mark (jj_l X) hY.2.2.2.2 D dA aK aV x0 K u mc2 ms2 Post h sz) hlk q1463 q1464 q120 q1465 hd_xw0_mark rfl rfl hw hF hL hk hk2 d q hq kk
def xw0_back_B14 (Post : Int32 → XS → Prop) (K : XK) (x0 : Nat) (s0 : Int32) (s1 : Nat) (u : XS) : Prop :=
  K s1 = (1, 0) ∧
  ∀ u14 : XS, u14 = xsi u s1 7 s0 →
  K x0 = (1, 0) ∧
  ((xi u14 x0 7) ≤ 0 →
    ∀ u33 : XS, u33 = xsi u14 x0 12 ((xi u14 x0 12) - (1 : Int32)) →
    ∃ b48, (xr u33 x0 11) = some b48 ∧
    ∃ n48, K b48 = (8, n48) ∧
    vp_in (xi u33 x0 12) n48 ∧
    ∃ b49, (xr u33 b48 (xi u33 x0 12).toNatClampNeg) = some b49 ∧
    ∃ b49_1, (xr u33 x0 10) = some b49_1 ∧
    K b49_1 = (1, 4) ∧
    xw4_be b49_1 b49 K u33 (fun u49 =>
      Post (xi u49 x0 12) u49)) ∧
  (¬ (xi u14 x0 7) ≤ 0 →
    Post (-1 : Int32) u14)
/-- RaisedPress.back()I -/
def xw0_back (x0 : Nat) (K : XK) (u : XS) (Post : Int32 → XS → Prop) : Prop :=
  K x0 = (1, 0) ∧
  (¬ (xi u x0 12) = 0 →
    xw0_back_B14 Post K x0 (0 : Int32) x0 u) ∧
  ((xi u x0 12) = 0 →
    xw0_back_B14 Post K x0 (6 : Int32) x0 u)
set_option maxHeartbeats 4000000 in
set_option maxRecDepth 100000 in
theorem txw0_back_B14 {X : JC} {D : va_G} {dA aK aV : Nat → Nat} {sz : Nat} {K : XK} {Post : Int32 → XS → Prop} {x0 : Nat} {s0 : Int32} {s1 : Nat} {u : XS} (hX : JX X yX0_back.cls cX0_back 1 (Option.some Jvm.ClassFile.FieldType.int) 1 21 0 0) (hY : JY X D dA aK aV (AX K sz)) (h : xw0_back_B14 Post K x0 s0 s1 u) : JJ X (AX K sz) (jj_Q X (va_Qi (fun (r : Int32) (w : XS) => Post r w) (jx_B D dA K) (AX K sz)) 0 0 (AX K sz)) 1 (XP D dA (AX K sz) K u) 0 0 14 [(0, .ref x0)] [.int s0, .ref s1] := by
  unfold xw0_back_B14 at h
  obtain ⟨k14, h⟩ := h
  refine xp0_7 hX hY k14 dX0_back_14 q418 17 rfl (fun u14 e14 => ?_)
  have h := h u14 e14
  refine jj_aload_n hX dX0_back_17 0 rfl 18 rfl ?_
  obtain ⟨k18, h⟩ := h
  refine xg0_7 hX hY k18 dX0_back_18 q418 21 rfl ?_
  refine jj_if_le hX dX0_back_21 26 24 (by decide) rfl (fun c21 => ?_) (fun c21 => ?_)
  · have h := h.1 c21
    refine jj_aload_n hX dX0_back_26 0 rfl 27 rfl ?_
    refine jj_dup hX dX0_back_27 rfl 28 rfl ?_
    refine xg0_12 hX hY k18 dX0_back_28 q423 31 rfl ?_
    refine jj_iconst hX dX0_back_31 ci_1 32 rfl ?_
    refine jj_isub hX dX0_back_32 33 rfl ?_
    refine xp0_12 hX hY k18 dX0_back_33 q423 36 rfl (fun u33 e33 => ?_)
    have h := h u33 e33
    refine jj_aload_n hX dX0_back_36 0 rfl 37 rfl ?_
    refine xg0_10 hX hY k18 dX0_back_37 q421 40 rfl ?_
    refine jj_aload_n hX dX0_back_40 0 rfl 41 rfl ?_
    refine xg0_11 hX hY k18 dX0_back_41 q422 44 rfl ?_
    refine jj_aload_n hX dX0_back_44 0 rfl 45 rfl ?_
    refine xg0_12 hX hY k18 dX0_back_45 q423 48 rfl ?_
    obtain ⟨b48, g48, h⟩ := h
    refine jj_st (st2 := [.int (xi u33 x0 12), .ref b48, va_rf (xr u33 x0 10)]) (by rw [va_rf_some g48]) ?_
    obtain ⟨n48, k48, h⟩ := h
    obtain ⟨hi48, h⟩ := h
    refine jx_aald6 hX hY.1 k48 _ rfl hi48 dX0_back_48 49 rfl ?_
    obtain ⟨b49, g49, h⟩ := h
    refine jj_st (st2 := [.ref b49, va_rf (xr u33 x0 10)]) (by rw [va_rf_some g49]) ?_
    obtain ⟨b49_1, g49_1, h⟩ := h
    refine jj_st (st2 := [.ref b49, .ref b49_1]) (by rw [va_rf_some g49_1]) ?_
    obtain ⟨k49, h⟩ := h
    refine kxw4_be hX hY k49 q1466 (Nat.le_of_ble_eq_true rfl) (Nat.le_of_ble_eq_true rfl) (Nat.zero_le _) (Nat.zero_le _) (Nat.le_of_ble_eq_true rfl) dX0_back_49 52 rfl h (fun u49 h => ?_)
    refine jj_aload_n hX dX0_back_52 0 rfl 53 rfl ?_
    refine xg0_12 hX hY k18 dX0_back_53 q423 56 rfl ?_
    exact jj_reti (post := (fun (r : Int32) (w : XS) => Post r w)) (u := u49) hX dX0_back_56 (Nat.le_refl 0) (Nat.le_refl 0) jx_hB h
  · have h := h.2 c21
    refine jj_iconst hX dX0_back_24 ci_m1 25 rfl ?_
    exact jj_reti (post := (fun (r : Int32) (w : XS) => Post r w)) (u := u14) hX dX0_back_25 (Nat.le_refl 0) (Nat.le_refl 0) jx_hB h
set_option maxHeartbeats 4000000 in
set_option maxRecDepth 100000 in
theorem mxw0_back (l : Launch) (hfl : l.stackTraces = false) (D : va_G) (dA aK aV : Nat → Nat) (x0 : Nat) (K : XK) (u : XS) (Post : Int32 → XS → Prop) (h : xw0_back x0 K u Post) (sz : Nat) : Met l yX0_back (ws_ yX0_back cX0_back 1 (Option.some Jvm.ClassFile.FieldType.int)) (jx_rm 1 21 0 0) (jx_Pc D dA aK aV K u sz [.ref x0]) (va_Qi (fun (r : Int32) (w : XS) => Post r w) (jx_B D dA K) (AX K sz)) 0 0 (AX K sz) := by
  refine jx_start hfl [.ref x0] [(0, .ref x0)] (by decide) (Nat.le_of_ble_eq_true rfl) rfl (fun X hX hY hin => ?_)
  unfold xw0_back at h
  refine jj_aload_n hX dX0_back_0 0 rfl 1 rfl ?_
  refine jj_aload_n hX dX0_back_1 0 rfl 2 rfl ?_
  obtain ⟨k2, h⟩ := h
  refine xg0_12 hX hY k2 dX0_back_2 q423 5 rfl ?_
  refine jj_if_ne hX dX0_back_5 13 8 (by decide) rfl (fun c5 => ?_) (fun c5 => ?_)
  · have h := h.1 c5
    refine jj_iconst hX dX0_back_13 ci_0 14 rfl ?_
    exact txw0_back_B14 hX hY h
  · have h := h.2 c5
    refine jj_bipush hX dX0_back_8 cb_6 10 rfl ?_
    refine jj_goto hX dX0_back_10 14 (by decide) ?_
    exact txw0_back_B14 hX hY h
theorem hd_xw0_back : yX0_back.cls ≠ "java/lang/invoke/MethodHandle" ∧ yX0_back.cls ≠ "java/lang/invoke/VarHandle" ∧ (parseMethodDescriptor yX0_back.desc).map (fun d => d.parameters.length) = some 0 := by decide +kernel
theorem kxw0_back {X : JC} {A : Nat → Prop} {Q : State → Prop} {nL k n pc : Nat} {lv : List (Nat × Value)} {st : List Value} {own : String} {cc : ByteArray} {ret : Option FieldType} {F LL mc ms ix : Nat} {D : va_G} {dA aK aV : Nat → Nat} {K : XK} {u : XS} {x0 : Nat} {Post : Int32 → XS → Prop} (hX : JX X own cc nL ret F LL mc ms) (hY : JY X D dA aK aV A) (h1a : K x0 = (1, 0)) (hlk : (Cond.methodLink own ix yX0_back) ∈ lw_all) (hF : 1 + 1 ≤ F) (hL : 8 + (1 + 11) + 21 ≤ LL) (hk : k ≤ mc) (hk2 : n ≤ ms) (hw : (st.map fun v => v.category).sum ≤ 8) (d : decode cc pc = .ok (.invokevirtual ix, 3)) (q : Nat) (hq : pc + 3 = q) (h : xw0_back x0 K u  Post) (kk : ∀ (r : Int32) (u2 : XS), Post r u2 → JJ X A Q nL (XP D dA A K u2) k n q lv (.int r :: st)) : JJ X A Q nL (XP D dA A K u) k n pc lv (.ref x0 :: st) :=
  jx_callVi (na := 0) (As := []) hX hY jf0 h1a (fun sz => mxw0_back (jj_l X) hY.2.2.2.2 D dA aK aV x0 K u  Post h sz) hlk q1471 q1472 q120 q1473 ⟨rfl, hd_xw0_back⟩ rfl rfl hw hF hL hk hk2 d q hq kk
theorem knxw0_back {X : JC} {A : Nat → Prop} {Q : State → Prop} {nL k n pc : Nat} {lv : List (Nat × Value)} {st : List Value} {own : String} {cc : ByteArray} {ret : Option FieldType} {F LL mc ms ix : Nat} {D : va_G} {dA aK aV : Nat → Nat} {K : XK} {u : XS} {x0 : Nat} {host : String} {Post : Int32 → XS → Prop} (hX : JX X own cc nL ret F LL mc ms) (hY : JY X D dA aK aV A) (h1a : K x0 = (1, 0)) (hlk : (Cond.methodLinkNest own ix yX0_back host) ∈ jx_nest) (hF : 1 + 1 ≤ F) (hL : 8 + (1 + 11) + 21 ≤ LL) (hk : k ≤ mc) (hk2 : n ≤ ms) (hw : (st.map fun v => v.category).sum ≤ 8) (d : decode cc pc = .ok (.invokevirtual ix, 3)) (q : Nat) (hq : pc + 3 = q) (h : xw0_back x0 K u  Post) (kk : ∀ (r : Int32) (u2 : XS), Post r u2 → JJ X A Q nL (XP D dA A K u2) k n q lv (.int r :: st)) : JJ X A Q nL (XP D dA A K u) k n pc lv (.ref x0 :: st) :=
  jx_callNi (na := 0) (As := []) hX hY jf0 h1a (fun sz => mxw0_back (jj_l X) hY.2.2.2.2 D dA aK aV x0 K u  Post h sz) hlk q1471 q1472 q120 q1473 hd_xw0_back rfl rfl hw hF hL hk hk2 d q hq kk
/-- RaisedPress$Rule.<init>([B[I)V -/
def xw9_init (x0 : Nat) (x1 : Nat) (x2 : Nat) (K : XK) (u : XS) (Post : XS → Prop) : Prop :=
  xRule K x0 ∧
  ∀ u6 : XS, u6 = xsr u x0 0 (some x1) →
  ∀ u11 : XS, u11 = xsr u6 x0 1 (some x2) →
  Post u11
set_option maxHeartbeats 4000000 in
set_option maxRecDepth 100000 in
theorem mxw9_init (l : Launch) (hfl : l.stackTraces = false) (D : va_G) (dA aK aV : Nat → Nat) (x0 : Nat) (x1 : Nat) (x2 : Nat) (K : XK) (u : XS) (Post : XS → Prop) (h : xw9_init x0 x1 x2 K u Post) (sz : Nat) : Met l yX9_init (ws_ yX9_init cX9_init 3 (Option.none : Option Jvm.ClassFile.FieldType)) (jx_rm 1 20 0 0) (jx_Pc D dA aK aV K u sz [.ref x0, .ref x1, .ref x2]) (va_Qv (fun w : XS => Post w) (jx_B D dA K) (AX K sz)) 0 0 (AX K sz) := by
  refine jx_start hfl [.ref x0, .ref x1, .ref x2] [(0, .ref x0), (1, .ref x1), (2, .ref x2)] (by decide) (Nat.le_of_ble_eq_true rfl) rfl (fun X hX hY hin => ?_)
  unfold xw9_init at h
  refine jj_aload_n hX dX9_init_0 0 rfl 1 rfl ?_
  refine jj_oinit hX q771 (Nat.le_of_ble_eq_true rfl) (Nat.le_of_ble_eq_true rfl) (Nat.le_of_ble_eq_true rfl) dX9_init_1 4 rfl ?_
  refine jj_aload_n hX dX9_init_4 0 rfl 5 rfl ?_
  refine jj_aload_n hX dX9_init_5 1 rfl 6 rfl ?_
  obtain ⟨k6, h⟩ := h
  refine xpfr_0 (v := (some x1)) hX hY hin rfl k6 dX9_init_6 q772 9 rfl (fun u6 e6 => ?_)
  have h := h u6 e6
  refine jj_aload_n hX dX9_init_9 0 rfl 10 rfl ?_
  refine jj_aload_n hX dX9_init_10 2 rfl 11 rfl ?_
  refine xpfr_1 (v := (some x2)) hX hY hin rfl k6 dX9_init_11 q775 14 rfl (fun u11 e11 => ?_)
  have h := h u11 e11
  exact jj_retv (post := (fun w : XS => Post w)) (u := u11) hX dX9_init_14 (Nat.le_refl 0) (Nat.le_refl 0) jx_hB h
theorem hd_xw9_init : yX9_init.cls ≠ "java/lang/invoke/MethodHandle" ∧ yX9_init.cls ≠ "java/lang/invoke/VarHandle" ∧ (parseMethodDescriptor yX9_init.desc).map (fun d => d.parameters.length) = some 2 := by decide +kernel
theorem kxw9_init {X : JC} {A : Nat → Prop} {Q : State → Prop} {nL k n pc : Nat} {lv : List (Nat × Value)} {st : List Value} {own : String} {cc : ByteArray} {ret : Option FieldType} {F LL mc ms ix : Nat} {D : va_G} {dA aK aV : Nat → Nat} {K : XK} {u : XS} {x0 : Nat} {x1 : Nat} {x2 : Nat} {Post : XS → Prop} (hX : JX X own cc nL ret F LL mc ms) (hY : JY X D dA aK aV A) (hlk : (Cond.methodLink own ix yX9_init) ∈ lw_all) (hF : 1 + 1 ≤ F) (hL : 8 + (3 + 11) + 20 ≤ LL) (hk : k ≤ mc) (hk2 : n ≤ ms) (hw : (st.map fun v => v.category).sum ≤ 8) (d : decode cc pc = .ok (.invokespecial ix, 3)) (q : Nat) (hq : pc + 3 = q) (h : xw9_init x0 x1 x2 K u  Post) (kk : ∀ (u2 : XS), Post u2 → JJ X A Q nL (XP D dA A K u2) k n q lv (st)) : JJ X A Q nL (XP D dA A K u) k n pc lv (.ref x2 :: .ref x1 :: .ref x0 :: st) :=
  jx_callIv (na := 2) (As := [.ref x1, .ref x2]) hX hY (fun sz => mxw9_init (jj_l X) hY.2.2.2.2 D dA aK aV x0 x1 x2 K u  Post h sz) hlk q769 q140 rfl q770 hd_xw9_init rfl rfl hw hF hL hk hk2 d q hq kk
theorem knxw9_init {X : JC} {A : Nat → Prop} {Q : State → Prop} {nL k n pc : Nat} {lv : List (Nat × Value)} {st : List Value} {own : String} {cc : ByteArray} {ret : Option FieldType} {F LL mc ms ix : Nat} {D : va_G} {dA aK aV : Nat → Nat} {K : XK} {u : XS} {x0 : Nat} {x1 : Nat} {x2 : Nat} {host : String} {Post : XS → Prop} (hX : JX X own cc nL ret F LL mc ms) (hY : JY X D dA aK aV A) (hlk : (Cond.methodLinkNest own ix yX9_init host) ∈ jx_nest) (hF : 1 + 1 ≤ F) (hL : 8 + (3 + 11) + 20 ≤ LL) (hk : k ≤ mc) (hk2 : n ≤ ms) (hw : (st.map fun v => v.category).sum ≤ 8) (d : decode cc pc = .ok (.invokespecial ix, 3)) (q : Nat) (hq : pc + 3 = q) (h : xw9_init x0 x1 x2 K u  Post) (kk : ∀ (u2 : XS), Post u2 → JJ X A Q nL (XP D dA A K u2) k n q lv (st)) : JJ X A Q nL (XP D dA A K u) k n pc lv (.ref x2 :: .ref x1 :: .ref x0 :: st) :=
  jx_callINv (na := 2) (As := [.ref x1, .ref x2]) hX hY (fun sz => mxw9_init (jj_l X) hY.2.2.2.2 D dA aK aV x0 x1 x2 K u  Post h sz) hlk q769 q140 rfl q770 hd_xw9_init rfl rfl hw hF hL hk hk2 d q hq kk
/-- RaisedPress$Begin.<init>([B[I)V -/
def xw10_init (x0 : Nat) (x1 : Nat) (x2 : Nat) (K : XK) (u : XS) (Post : XS → Prop) : Prop :=
  xw9_init x0 x1 x2 K u (fun u3 =>
    Post u3)
set_option maxHeartbeats 4000000 in
set_option maxRecDepth 100000 in
theorem mxw10_init (l : Launch) (hfl : l.stackTraces = false) (D : va_G) (dA aK aV : Nat → Nat) (x0 : Nat) (x1 : Nat) (x2 : Nat) (K : XK) (u : XS) (Post : XS → Prop) (h : xw10_init x0 x1 x2 K u Post) (sz : Nat) : Met l yX10_init (ws_ yX10_init cX10_init 3 (Option.none : Option Jvm.ClassFile.FieldType)) (jx_rm 2 42 0 0) (jx_Pc D dA aK aV K u sz [.ref x0, .ref x1, .ref x2]) (va_Qv (fun w : XS => Post w) (jx_B D dA K) (AX K sz)) 0 0 (AX K sz) := by
  refine jx_start hfl [.ref x0, .ref x1, .ref x2] [(0, .ref x0), (1, .ref x1), (2, .ref x2)] (by decide) (Nat.le_of_ble_eq_true rfl) rfl (fun X hX hY hin => ?_)
  unfold xw10_init at h
  refine jj_aload_n hX dX10_init_0 0 rfl 1 rfl ?_
  refine jj_aload_n hX dX10_init_1 1 rfl 2 rfl ?_
  refine jj_aload_n hX dX10_init_2 2 rfl 3 rfl ?_
  refine kxw9_init hX hY q768 (Nat.le_of_ble_eq_true rfl) (Nat.le_of_ble_eq_true rfl) (Nat.zero_le _) (Nat.zero_le _) (Nat.le_of_ble_eq_true rfl) dX10_init_3 6 rfl h (fun u3 h => ?_)
  exact jj_retv (post := (fun w : XS => Post w)) (u := u3) hX dX10_init_6 (Nat.le_refl 0) (Nat.le_refl 0) jx_hB h
theorem hd_xw10_init : yX10_init.cls ≠ "java/lang/invoke/MethodHandle" ∧ yX10_init.cls ≠ "java/lang/invoke/VarHandle" ∧ (parseMethodDescriptor yX10_init.desc).map (fun d => d.parameters.length) = some 2 := by decide +kernel
theorem kxw10_init {X : JC} {A : Nat → Prop} {Q : State → Prop} {nL k n pc : Nat} {lv : List (Nat × Value)} {st : List Value} {own : String} {cc : ByteArray} {ret : Option FieldType} {F LL mc ms ix : Nat} {D : va_G} {dA aK aV : Nat → Nat} {K : XK} {u : XS} {x0 : Nat} {x1 : Nat} {x2 : Nat} {Post : XS → Prop} (hX : JX X own cc nL ret F LL mc ms) (hY : JY X D dA aK aV A) (hlk : (Cond.methodLink own ix yX10_init) ∈ lw_all) (hF : 2 + 1 ≤ F) (hL : 8 + (3 + 11) + 42 ≤ LL) (hk : k ≤ mc) (hk2 : n ≤ ms) (hw : (st.map fun v => v.category).sum ≤ 8) (d : decode cc pc = .ok (.invokespecial ix, 3)) (q : Nat) (hq : pc + 3 = q) (h : xw10_init x0 x1 x2 K u  Post) (kk : ∀ (u2 : XS), Post u2 → JJ X A Q nL (XP D dA A K u2) k n q lv (st)) : JJ X A Q nL (XP D dA A K u) k n pc lv (.ref x2 :: .ref x1 :: .ref x0 :: st) :=
  jx_callIv (na := 2) (As := [.ref x1, .ref x2]) hX hY (fun sz => mxw10_init (jj_l X) hY.2.2.2.2 D dA aK aV x0 x1 x2 K u  Post h sz) hlk q766 q141 rfl q767 hd_xw10_init rfl rfl hw hF hL hk hk2 d q hq kk
theorem knxw10_init {X : JC} {A : Nat → Prop} {Q : State → Prop} {nL k n pc : Nat} {lv : List (Nat × Value)} {st : List Value} {own : String} {cc : ByteArray} {ret : Option FieldType} {F LL mc ms ix : Nat} {D : va_G} {dA aK aV : Nat → Nat} {K : XK} {u : XS} {x0 : Nat} {x1 : Nat} {x2 : Nat} {host : String} {Post : XS → Prop} (hX : JX X own cc nL ret F LL mc ms) (hY : JY X D dA aK aV A) (hlk : (Cond.methodLinkNest own ix yX10_init host) ∈ jx_nest) (hF : 2 + 1 ≤ F) (hL : 8 + (3 + 11) + 42 ≤ LL) (hk : k ≤ mc) (hk2 : n ≤ ms) (hw : (st.map fun v => v.category).sum ≤ 8) (d : decode cc pc = .ok (.invokespecial ix, 3)) (q : Nat) (hq : pc + 3 = q) (h : xw10_init x0 x1 x2 K u  Post) (kk : ∀ (u2 : XS), Post u2 → JJ X A Q nL (XP D dA A K u2) k n q lv (st)) : JJ X A Q nL (XP D dA A K u) k n pc lv (.ref x2 :: .ref x1 :: .ref x0 :: st) :=
  jx_callINv (na := 2) (As := [.ref x1, .ref x2]) hX hY (fun sz => mxw10_init (jj_l X) hY.2.2.2.2 D dA aK aV x0 x1 x2 K u  Post h sz) hlk q766 q141 rfl q767 hd_xw10_init rfl rfl hw hF hL hk hk2 d q hq kk
/-- RaisedPress$Middle.<init>([B[I)V -/
def xw11_init (x0 : Nat) (x1 : Nat) (x2 : Nat) (K : XK) (u : XS) (Post : XS → Prop) : Prop :=
  xw9_init x0 x1 x2 K u (fun u3 =>
    Post u3)
set_option maxHeartbeats 4000000 in
set_option maxRecDepth 100000 in
theorem mxw11_init (l : Launch) (hfl : l.stackTraces = false) (D : va_G) (dA aK aV : Nat → Nat) (x0 : Nat) (x1 : Nat) (x2 : Nat) (K : XK) (u : XS) (Post : XS → Prop) (h : xw11_init x0 x1 x2 K u Post) (sz : Nat) : Met l yX11_init (ws_ yX11_init cX11_init 3 (Option.none : Option Jvm.ClassFile.FieldType)) (jx_rm 2 42 0 0) (jx_Pc D dA aK aV K u sz [.ref x0, .ref x1, .ref x2]) (va_Qv (fun w : XS => Post w) (jx_B D dA K) (AX K sz)) 0 0 (AX K sz) := by
  refine jx_start hfl [.ref x0, .ref x1, .ref x2] [(0, .ref x0), (1, .ref x1), (2, .ref x2)] (by decide) (Nat.le_of_ble_eq_true rfl) rfl (fun X hX hY hin => ?_)
  unfold xw11_init at h
  refine jj_aload_n hX dX11_init_0 0 rfl 1 rfl ?_
  refine jj_aload_n hX dX11_init_1 1 rfl 2 rfl ?_
  refine jj_aload_n hX dX11_init_2 2 rfl 3 rfl ?_
  refine kxw9_init hX hY q789 (Nat.le_of_ble_eq_true rfl) (Nat.le_of_ble_eq_true rfl) (Nat.zero_le _) (Nat.zero_le _) (Nat.le_of_ble_eq_true rfl) dX11_init_3 6 rfl h (fun u3 h => ?_)
  exact jj_retv (post := (fun w : XS => Post w)) (u := u3) hX dX11_init_6 (Nat.le_refl 0) (Nat.le_refl 0) jx_hB h
theorem hd_xw11_init : yX11_init.cls ≠ "java/lang/invoke/MethodHandle" ∧ yX11_init.cls ≠ "java/lang/invoke/VarHandle" ∧ (parseMethodDescriptor yX11_init.desc).map (fun d => d.parameters.length) = some 2 := by decide +kernel
theorem kxw11_init {X : JC} {A : Nat → Prop} {Q : State → Prop} {nL k n pc : Nat} {lv : List (Nat × Value)} {st : List Value} {own : String} {cc : ByteArray} {ret : Option FieldType} {F LL mc ms ix : Nat} {D : va_G} {dA aK aV : Nat → Nat} {K : XK} {u : XS} {x0 : Nat} {x1 : Nat} {x2 : Nat} {Post : XS → Prop} (hX : JX X own cc nL ret F LL mc ms) (hY : JY X D dA aK aV A) (hlk : (Cond.methodLink own ix yX11_init) ∈ lw_all) (hF : 2 + 1 ≤ F) (hL : 8 + (3 + 11) + 42 ≤ LL) (hk : k ≤ mc) (hk2 : n ≤ ms) (hw : (st.map fun v => v.category).sum ≤ 8) (d : decode cc pc = .ok (.invokespecial ix, 3)) (q : Nat) (hq : pc + 3 = q) (h : xw11_init x0 x1 x2 K u  Post) (kk : ∀ (u2 : XS), Post u2 → JJ X A Q nL (XP D dA A K u2) k n q lv (st)) : JJ X A Q nL (XP D dA A K u) k n pc lv (.ref x2 :: .ref x1 :: .ref x0 :: st) :=
  jx_callIv (na := 2) (As := [.ref x1, .ref x2]) hX hY (fun sz => mxw11_init (jj_l X) hY.2.2.2.2 D dA aK aV x0 x1 x2 K u  Post h sz) hlk q787 q142 rfl q788 hd_xw11_init rfl rfl hw hF hL hk hk2 d q hq kk
theorem knxw11_init {X : JC} {A : Nat → Prop} {Q : State → Prop} {nL k n pc : Nat} {lv : List (Nat × Value)} {st : List Value} {own : String} {cc : ByteArray} {ret : Option FieldType} {F LL mc ms ix : Nat} {D : va_G} {dA aK aV : Nat → Nat} {K : XK} {u : XS} {x0 : Nat} {x1 : Nat} {x2 : Nat} {host : String} {Post : XS → Prop} (hX : JX X own cc nL ret F LL mc ms) (hY : JY X D dA aK aV A) (hlk : (Cond.methodLinkNest own ix yX11_init host) ∈ jx_nest) (hF : 2 + 1 ≤ F) (hL : 8 + (3 + 11) + 42 ≤ LL) (hk : k ≤ mc) (hk2 : n ≤ ms) (hw : (st.map fun v => v.category).sum ≤ 8) (d : decode cc pc = .ok (.invokespecial ix, 3)) (q : Nat) (hq : pc + 3 = q) (h : xw11_init x0 x1 x2 K u  Post) (kk : ∀ (u2 : XS), Post u2 → JJ X A Q nL (XP D dA A K u2) k n q lv (st)) : JJ X A Q nL (XP D dA A K u) k n pc lv (.ref x2 :: .ref x1 :: .ref x0 :: st) :=
  jx_callINv (na := 2) (As := [.ref x1, .ref x2]) hX hY (fun sz => mxw11_init (jj_l X) hY.2.2.2.2 D dA aK aV x0 x1 x2 K u  Post h sz) hlk q787 q142 rfl q788 hd_xw11_init rfl rfl hw hF hL hk hk2 d q hq kk
/-- RaisedPress$Ending.<init>([B[I)V -/
def xw12_init (x0 : Nat) (x1 : Nat) (x2 : Nat) (K : XK) (u : XS) (Post : XS → Prop) : Prop :=
  xw9_init x0 x1 x2 K u (fun u3 =>
    Post u3)
set_option maxHeartbeats 4000000 in
set_option maxRecDepth 100000 in
theorem mxw12_init (l : Launch) (hfl : l.stackTraces = false) (D : va_G) (dA aK aV : Nat → Nat) (x0 : Nat) (x1 : Nat) (x2 : Nat) (K : XK) (u : XS) (Post : XS → Prop) (h : xw12_init x0 x1 x2 K u Post) (sz : Nat) : Met l yX12_init (ws_ yX12_init cX12_init 3 (Option.none : Option Jvm.ClassFile.FieldType)) (jx_rm 2 42 0 0) (jx_Pc D dA aK aV K u sz [.ref x0, .ref x1, .ref x2]) (va_Qv (fun w : XS => Post w) (jx_B D dA K) (AX K sz)) 0 0 (AX K sz) := by
  refine jx_start hfl [.ref x0, .ref x1, .ref x2] [(0, .ref x0), (1, .ref x1), (2, .ref x2)] (by decide) (Nat.le_of_ble_eq_true rfl) rfl (fun X hX hY hin => ?_)
  unfold xw12_init at h
  refine jj_aload_n hX dX12_init_0 0 rfl 1 rfl ?_
  refine jj_aload_n hX dX12_init_1 1 rfl 2 rfl ?_
  refine jj_aload_n hX dX12_init_2 2 rfl 3 rfl ?_
  refine kxw9_init hX hY q799 (Nat.le_of_ble_eq_true rfl) (Nat.le_of_ble_eq_true rfl) (Nat.zero_le _) (Nat.zero_le _) (Nat.le_of_ble_eq_true rfl) dX12_init_3 6 rfl h (fun u3 h => ?_)
  exact jj_retv (post := (fun w : XS => Post w)) (u := u3) hX dX12_init_6 (Nat.le_refl 0) (Nat.le_refl 0) jx_hB h
theorem hd_xw12_init : yX12_init.cls ≠ "java/lang/invoke/MethodHandle" ∧ yX12_init.cls ≠ "java/lang/invoke/VarHandle" ∧ (parseMethodDescriptor yX12_init.desc).map (fun d => d.parameters.length) = some 2 := by decide +kernel
theorem kxw12_init {X : JC} {A : Nat → Prop} {Q : State → Prop} {nL k n pc : Nat} {lv : List (Nat × Value)} {st : List Value} {own : String} {cc : ByteArray} {ret : Option FieldType} {F LL mc ms ix : Nat} {D : va_G} {dA aK aV : Nat → Nat} {K : XK} {u : XS} {x0 : Nat} {x1 : Nat} {x2 : Nat} {Post : XS → Prop} (hX : JX X own cc nL ret F LL mc ms) (hY : JY X D dA aK aV A) (hlk : (Cond.methodLink own ix yX12_init) ∈ lw_all) (hF : 2 + 1 ≤ F) (hL : 8 + (3 + 11) + 42 ≤ LL) (hk : k ≤ mc) (hk2 : n ≤ ms) (hw : (st.map fun v => v.category).sum ≤ 8) (d : decode cc pc = .ok (.invokespecial ix, 3)) (q : Nat) (hq : pc + 3 = q) (h : xw12_init x0 x1 x2 K u  Post) (kk : ∀ (u2 : XS), Post u2 → JJ X A Q nL (XP D dA A K u2) k n q lv (st)) : JJ X A Q nL (XP D dA A K u) k n pc lv (.ref x2 :: .ref x1 :: .ref x0 :: st) :=
  jx_callIv (na := 2) (As := [.ref x1, .ref x2]) hX hY (fun sz => mxw12_init (jj_l X) hY.2.2.2.2 D dA aK aV x0 x1 x2 K u  Post h sz) hlk q797 q143 rfl q798 hd_xw12_init rfl rfl hw hF hL hk hk2 d q hq kk
theorem knxw12_init {X : JC} {A : Nat → Prop} {Q : State → Prop} {nL k n pc : Nat} {lv : List (Nat × Value)} {st : List Value} {own : String} {cc : ByteArray} {ret : Option FieldType} {F LL mc ms ix : Nat} {D : va_G} {dA aK aV : Nat → Nat} {K : XK} {u : XS} {x0 : Nat} {x1 : Nat} {x2 : Nat} {host : String} {Post : XS → Prop} (hX : JX X own cc nL ret F LL mc ms) (hY : JY X D dA aK aV A) (hlk : (Cond.methodLinkNest own ix yX12_init host) ∈ jx_nest) (hF : 2 + 1 ≤ F) (hL : 8 + (3 + 11) + 42 ≤ LL) (hk : k ≤ mc) (hk2 : n ≤ ms) (hw : (st.map fun v => v.category).sum ≤ 8) (d : decode cc pc = .ok (.invokespecial ix, 3)) (q : Nat) (hq : pc + 3 = q) (h : xw12_init x0 x1 x2 K u  Post) (kk : ∀ (u2 : XS), Post u2 → JJ X A Q nL (XP D dA A K u2) k n q lv (st)) : JJ X A Q nL (XP D dA A K u) k n pc lv (.ref x2 :: .ref x1 :: .ref x0 :: st) :=
  jx_callINv (na := 2) (As := [.ref x1, .ref x2]) hX hY (fun sz => mxw12_init (jj_l X) hY.2.2.2.2 D dA aK aV x0 x1 x2 K u  Post h sz) hlk q797 q143 rfl q798 hd_xw12_init rfl rfl hw hF hL hk hk2 d q hq kk
/-- RaisedPress$Alone.<init>([B[I)V -/
def xw13_init (x0 : Nat) (x1 : Nat) (x2 : Nat) (K : XK) (u : XS) (Post : XS → Prop) : Prop :=
  xw9_init x0 x1 x2 K u (fun u3 =>
    Post u3)
set_option maxHeartbeats 4000000 in
set_option maxRecDepth 100000 in
theorem mxw13_init (l : Launch) (hfl : l.stackTraces = false) (D : va_G) (dA aK aV : Nat → Nat) (x0 : Nat) (x1 : Nat) (x2 : Nat) (K : XK) (u : XS) (Post : XS → Prop) (h : xw13_init x0 x1 x2 K u Post) (sz : Nat) : Met l yX13_init (ws_ yX13_init cX13_init 3 (Option.none : Option Jvm.ClassFile.FieldType)) (jx_rm 2 42 0 0) (jx_Pc D dA aK aV K u sz [.ref x0, .ref x1, .ref x2]) (va_Qv (fun w : XS => Post w) (jx_B D dA K) (AX K sz)) 0 0 (AX K sz) := by
  refine jx_start hfl [.ref x0, .ref x1, .ref x2] [(0, .ref x0), (1, .ref x1), (2, .ref x2)] (by decide) (Nat.le_of_ble_eq_true rfl) rfl (fun X hX hY hin => ?_)
  unfold xw13_init at h
  refine jj_aload_n hX dX13_init_0 0 rfl 1 rfl ?_
  refine jj_aload_n hX dX13_init_1 1 rfl 2 rfl ?_
  refine jj_aload_n hX dX13_init_2 2 rfl 3 rfl ?_
  refine kxw9_init hX hY q809 (Nat.le_of_ble_eq_true rfl) (Nat.le_of_ble_eq_true rfl) (Nat.zero_le _) (Nat.zero_le _) (Nat.le_of_ble_eq_true rfl) dX13_init_3 6 rfl h (fun u3 h => ?_)
  exact jj_retv (post := (fun w : XS => Post w)) (u := u3) hX dX13_init_6 (Nat.le_refl 0) (Nat.le_refl 0) jx_hB h
theorem hd_xw13_init : yX13_init.cls ≠ "java/lang/invoke/MethodHandle" ∧ yX13_init.cls ≠ "java/lang/invoke/VarHandle" ∧ (parseMethodDescriptor yX13_init.desc).map (fun d => d.parameters.length) = some 2 := by decide +kernel
theorem kxw13_init {X : JC} {A : Nat → Prop} {Q : State → Prop} {nL k n pc : Nat} {lv : List (Nat × Value)} {st : List Value} {own : String} {cc : ByteArray} {ret : Option FieldType} {F LL mc ms ix : Nat} {D : va_G} {dA aK aV : Nat → Nat} {K : XK} {u : XS} {x0 : Nat} {x1 : Nat} {x2 : Nat} {Post : XS → Prop} (hX : JX X own cc nL ret F LL mc ms) (hY : JY X D dA aK aV A) (hlk : (Cond.methodLink own ix yX13_init) ∈ lw_all) (hF : 2 + 1 ≤ F) (hL : 8 + (3 + 11) + 42 ≤ LL) (hk : k ≤ mc) (hk2 : n ≤ ms) (hw : (st.map fun v => v.category).sum ≤ 8) (d : decode cc pc = .ok (.invokespecial ix, 3)) (q : Nat) (hq : pc + 3 = q) (h : xw13_init x0 x1 x2 K u  Post) (kk : ∀ (u2 : XS), Post u2 → JJ X A Q nL (XP D dA A K u2) k n q lv (st)) : JJ X A Q nL (XP D dA A K u) k n pc lv (.ref x2 :: .ref x1 :: .ref x0 :: st) :=
  jx_callIv (na := 2) (As := [.ref x1, .ref x2]) hX hY (fun sz => mxw13_init (jj_l X) hY.2.2.2.2 D dA aK aV x0 x1 x2 K u  Post h sz) hlk q807 q144 rfl q808 hd_xw13_init rfl rfl hw hF hL hk hk2 d q hq kk
theorem knxw13_init {X : JC} {A : Nat → Prop} {Q : State → Prop} {nL k n pc : Nat} {lv : List (Nat × Value)} {st : List Value} {own : String} {cc : ByteArray} {ret : Option FieldType} {F LL mc ms ix : Nat} {D : va_G} {dA aK aV : Nat → Nat} {K : XK} {u : XS} {x0 : Nat} {x1 : Nat} {x2 : Nat} {host : String} {Post : XS → Prop} (hX : JX X own cc nL ret F LL mc ms) (hY : JY X D dA aK aV A) (hlk : (Cond.methodLinkNest own ix yX13_init host) ∈ jx_nest) (hF : 2 + 1 ≤ F) (hL : 8 + (3 + 11) + 42 ≤ LL) (hk : k ≤ mc) (hk2 : n ≤ ms) (hw : (st.map fun v => v.category).sum ≤ 8) (d : decode cc pc = .ok (.invokespecial ix, 3)) (q : Nat) (hq : pc + 3 = q) (h : xw13_init x0 x1 x2 K u  Post) (kk : ∀ (u2 : XS), Post u2 → JJ X A Q nL (XP D dA A K u2) k n q lv (st)) : JJ X A Q nL (XP D dA A K u) k n pc lv (.ref x2 :: .ref x1 :: .ref x0 :: st) :=
  jx_callINv (na := 2) (As := [.ref x1, .ref x2]) hX hY (fun sz => mxw13_init (jj_l X) hY.2.2.2.2 D dA aK aV x0 x1 x2 K u  Post h sz) hlk q807 q144 rfl q808 hd_xw13_init rfl rfl hw hF hL hk hk2 d q hq kk
/-- RaisedPress$Anywhere.<init>([B[I)V -/
def xw14_init (x0 : Nat) (x1 : Nat) (x2 : Nat) (K : XK) (u : XS) (Post : XS → Prop) : Prop :=
  xw9_init x0 x1 x2 K u (fun u3 =>
    Post u3)
set_option maxHeartbeats 4000000 in
set_option maxRecDepth 100000 in
theorem mxw14_init (l : Launch) (hfl : l.stackTraces = false) (D : va_G) (dA aK aV : Nat → Nat) (x0 : Nat) (x1 : Nat) (x2 : Nat) (K : XK) (u : XS) (Post : XS → Prop) (h : xw14_init x0 x1 x2 K u Post) (sz : Nat) : Met l yX14_init (ws_ yX14_init cX14_init 3 (Option.none : Option Jvm.ClassFile.FieldType)) (jx_rm 2 42 0 0) (jx_Pc D dA aK aV K u sz [.ref x0, .ref x1, .ref x2]) (va_Qv (fun w : XS => Post w) (jx_B D dA K) (AX K sz)) 0 0 (AX K sz) := by
  refine jx_start hfl [.ref x0, .ref x1, .ref x2] [(0, .ref x0), (1, .ref x1), (2, .ref x2)] (by decide) (Nat.le_of_ble_eq_true rfl) rfl (fun X hX hY hin => ?_)
  unfold xw14_init at h
  refine jj_aload_n hX dX14_init_0 0 rfl 1 rfl ?_
  refine jj_aload_n hX dX14_init_1 1 rfl 2 rfl ?_
  refine jj_aload_n hX dX14_init_2 2 rfl 3 rfl ?_
  refine kxw9_init hX hY q818 (Nat.le_of_ble_eq_true rfl) (Nat.le_of_ble_eq_true rfl) (Nat.zero_le _) (Nat.zero_le _) (Nat.le_of_ble_eq_true rfl) dX14_init_3 6 rfl h (fun u3 h => ?_)
  exact jj_retv (post := (fun w : XS => Post w)) (u := u3) hX dX14_init_6 (Nat.le_refl 0) (Nat.le_refl 0) jx_hB h
theorem hd_xw14_init : yX14_init.cls ≠ "java/lang/invoke/MethodHandle" ∧ yX14_init.cls ≠ "java/lang/invoke/VarHandle" ∧ (parseMethodDescriptor yX14_init.desc).map (fun d => d.parameters.length) = some 2 := by decide +kernel
theorem kxw14_init {X : JC} {A : Nat → Prop} {Q : State → Prop} {nL k n pc : Nat} {lv : List (Nat × Value)} {st : List Value} {own : String} {cc : ByteArray} {ret : Option FieldType} {F LL mc ms ix : Nat} {D : va_G} {dA aK aV : Nat → Nat} {K : XK} {u : XS} {x0 : Nat} {x1 : Nat} {x2 : Nat} {Post : XS → Prop} (hX : JX X own cc nL ret F LL mc ms) (hY : JY X D dA aK aV A) (hlk : (Cond.methodLink own ix yX14_init) ∈ lw_all) (hF : 2 + 1 ≤ F) (hL : 8 + (3 + 11) + 42 ≤ LL) (hk : k ≤ mc) (hk2 : n ≤ ms) (hw : (st.map fun v => v.category).sum ≤ 8) (d : decode cc pc = .ok (.invokespecial ix, 3)) (q : Nat) (hq : pc + 3 = q) (h : xw14_init x0 x1 x2 K u  Post) (kk : ∀ (u2 : XS), Post u2 → JJ X A Q nL (XP D dA A K u2) k n q lv (st)) : JJ X A Q nL (XP D dA A K u) k n pc lv (.ref x2 :: .ref x1 :: .ref x0 :: st) :=
  jx_callIv (na := 2) (As := [.ref x1, .ref x2]) hX hY (fun sz => mxw14_init (jj_l X) hY.2.2.2.2 D dA aK aV x0 x1 x2 K u  Post h sz) hlk q816 q145 rfl q817 hd_xw14_init rfl rfl hw hF hL hk hk2 d q hq kk
theorem knxw14_init {X : JC} {A : Nat → Prop} {Q : State → Prop} {nL k n pc : Nat} {lv : List (Nat × Value)} {st : List Value} {own : String} {cc : ByteArray} {ret : Option FieldType} {F LL mc ms ix : Nat} {D : va_G} {dA aK aV : Nat → Nat} {K : XK} {u : XS} {x0 : Nat} {x1 : Nat} {x2 : Nat} {host : String} {Post : XS → Prop} (hX : JX X own cc nL ret F LL mc ms) (hY : JY X D dA aK aV A) (hlk : (Cond.methodLinkNest own ix yX14_init host) ∈ jx_nest) (hF : 2 + 1 ≤ F) (hL : 8 + (3 + 11) + 42 ≤ LL) (hk : k ≤ mc) (hk2 : n ≤ ms) (hw : (st.map fun v => v.category).sum ≤ 8) (d : decode cc pc = .ok (.invokespecial ix, 3)) (q : Nat) (hq : pc + 3 = q) (h : xw14_init x0 x1 x2 K u  Post) (kk : ∀ (u2 : XS), Post u2 → JJ X A Q nL (XP D dA A K u2) k n q lv (st)) : JJ X A Q nL (XP D dA A K u) k n pc lv (.ref x2 :: .ref x1 :: .ref x0 :: st) :=
  jx_callINv (na := 2) (As := [.ref x1, .ref x2]) hX hY (fun sz => mxw14_init (jj_l X) hY.2.2.2.2 D dA aK aV x0 x1 x2 K u  Post h sz) hlk q816 q145 rfl q817 hd_xw14_init rfl rfl hw hF hL hk hk2 d q hq kk
/-- RaisedPress$Reader.isWordByte(I)Z -/
def xw8_isWordByte (x0 : Nat) (x1 : Int32) (K : XK) (u : XS) (Post : Int32 → XS → Prop) : Prop :=
  K x0 = (1, 8) ∧
  ((xi u x0 0) ≤ x1 →
    Post (0 : Int32) u) ∧
  (¬ (xi u x0 0) ≤ x1 →
    ∃ b12, (xr u x0 7) = some b12 ∧
    K b12 = (1, 0) ∧
    ∃ b16, (xr u b12 2) = some b16 ∧
    ∃ n16, K b16 = (3, n16) ∧
    vp_in x1 n16 ∧
    xs_isSmall (xi u b16 x1.toNatClampNeg) (fun r17 =>
      (r17 = 0 →
        Post (0 : Int32) u) ∧
      (¬ r17 = 0 →
        Post (1 : Int32) u)))
set_option maxHeartbeats 4000000 in
set_option maxRecDepth 100000 in
theorem mxw8_isWordByte (l : Launch) (hfl : l.stackTraces = false) (D : va_G) (dA aK aV : Nat → Nat) (x0 : Nat) (x1 : Int32) (K : XK) (u : XS) (Post : Int32 → XS → Prop) (h : xw8_isWordByte x0 x1 K u Post) (sz : Nat) : Met l yX8_isWordByte (ws_ yX8_isWordByte cX8_isWordByte 2 (Option.some Jvm.ClassFile.FieldType.boolean)) (jx_rm 1 20 0 0) (jx_Pc D dA aK aV K u sz [.ref x0, .int x1]) (va_Qi (fun (r : Int32) (w : XS) => Post r w ∧ jj_z r) (jx_B D dA K) (AX K sz)) 0 0 (AX K sz) := by
  refine jx_start hfl [.ref x0, .int x1] [(0, .ref x0), (1, .int x1)] (by decide) (Nat.le_of_ble_eq_true rfl) rfl (fun X hX hY hin => ?_)
  unfold xw8_isWordByte at h
  refine jj_iload_n hX dX8_isWordByte_0 1 rfl 1 rfl ?_
  refine jj_aload_n hX dX8_isWordByte_1 0 rfl 2 rfl ?_
  obtain ⟨k2, h⟩ := h
  refine xg8_0 hX hY k2 dX8_isWordByte_2 q658 5 rfl ?_
  refine jj_icmp_ge hX dX8_isWordByte_5 27 8 (by decide) rfl (fun c5 => ?_) (fun c5 => ?_)
  · have h := h.1 c5
    refine jj_iconst hX dX8_isWordByte_27 ci_0 28 rfl ?_
    exact jj_retz (post := (fun (r : Int32) (w : XS) => Post r w)) (u := u) hX dX8_isWordByte_28 (Nat.le_refl 0) (Nat.le_refl 0) jx_hB jj_z0 h
  · have h := h.2 c5
    refine jj_aload_n hX dX8_isWordByte_8 0 rfl 9 rfl ?_
    refine xg8_7 hX hY k2 dX8_isWordByte_9 q665 12 rfl ?_
    obtain ⟨b12, g12, h⟩ := h
    refine jj_st (st2 := [.ref b12]) (by rw [va_rf_some g12]) ?_
    obtain ⟨k12, h⟩ := h
    refine xgn0_2 hX hY k12 dX8_isWordByte_12 nq412 15 rfl ?_
    refine jj_iload_n hX dX8_isWordByte_15 1 rfl 16 rfl ?_
    obtain ⟨b16, g16, h⟩ := h
    refine jj_st (st2 := [.int x1, .ref b16]) (by rw [va_rf_some g16]) ?_
    obtain ⟨n16, k16, h⟩ := h
    obtain ⟨hi16, h⟩ := h
    refine jx_bald hX hY.1 k16 _ rfl hi16 dX8_isWordByte_16 17 rfl ?_
    refine knxs_isSmall hX XP.keeps hY.2.1 nq648 (Nat.le_of_ble_eq_true rfl) (Nat.le_of_ble_eq_true rfl) (Nat.zero_le _) (Nat.zero_le _) (Nat.le_of_ble_eq_true rfl) dX8_isWordByte_17 20 rfl h (fun r17 hb17 h => ?_)
    refine jj_if_eq hX dX8_isWordByte_20 27 23 (by decide) rfl (fun c20 => ?_) (fun c20 => ?_)
    · have h := h.1 c20
      refine jj_iconst hX dX8_isWordByte_27 ci_0 28 rfl ?_
      exact jj_retz (post := (fun (r : Int32) (w : XS) => Post r w)) (u := u) hX dX8_isWordByte_28 (Nat.le_refl 0) (Nat.le_refl 0) jx_hB jj_z0 h
    · have h := h.2 c20
      refine jj_iconst hX dX8_isWordByte_23 ci_1 24 rfl ?_
      refine jj_goto hX dX8_isWordByte_24 28 (by decide) ?_
      exact jj_retz (post := (fun (r : Int32) (w : XS) => Post r w)) (u := u) hX dX8_isWordByte_28 (Nat.le_refl 0) (Nat.le_refl 0) jx_hB jj_z1 h
theorem hd_xw8_isWordByte : yX8_isWordByte.cls ≠ "java/lang/invoke/MethodHandle" ∧ yX8_isWordByte.cls ≠ "java/lang/invoke/VarHandle" ∧ (parseMethodDescriptor yX8_isWordByte.desc).map (fun d => d.parameters.length) = some 1 := by decide +kernel
theorem kxw8_isWordByte {X : JC} {A : Nat → Prop} {Q : State → Prop} {nL k n pc : Nat} {lv : List (Nat × Value)} {st : List Value} {own : String} {cc : ByteArray} {ret : Option FieldType} {F LL mc ms ix : Nat} {D : va_G} {dA aK aV : Nat → Nat} {K : XK} {u : XS} {x0 : Nat} {x1 : Int32} {Post : Int32 → XS → Prop} (hX : JX X own cc nL ret F LL mc ms) (hY : JY X D dA aK aV A) (h1a : K x0 = (1, 8)) (hlk : (Cond.methodLink own ix yX8_isWordByte) ∈ lw_all) (hF : 1 + 1 ≤ F) (hL : 8 + (2 + 11) + 20 ≤ LL) (hk : k ≤ mc) (hk2 : n ≤ ms) (hw : (st.map fun v => v.category).sum ≤ 8) (d : decode cc pc = .ok (.invokevirtual ix, 3)) (q : Nat) (hq : pc + 3 = q) (h : xw8_isWordByte x0 x1 K u  Post) (kk : ∀ (r : Int32) (u2 : XS), jj_z r → Post r u2 → JJ X A Q nL (XP D dA A K u2) k n q lv (.int r :: st)) : JJ X A Q nL (XP D dA A K u) k n pc lv (.int x1 :: .ref x0 :: st) :=
  jx_callVz (na := 1) (As := [.int x1]) hX hY jf8 h1a (fun sz => mxw8_isWordByte (jj_l X) hY.2.2.2.2 D dA aK aV x0 x1 K u  Post h sz) hlk q646 qs8 q136 q647 ⟨rfl, hd_xw8_isWordByte⟩ rfl rfl hw hF hL hk hk2 d q hq kk
theorem knxw8_isWordByte {X : JC} {A : Nat → Prop} {Q : State → Prop} {nL k n pc : Nat} {lv : List (Nat × Value)} {st : List Value} {own : String} {cc : ByteArray} {ret : Option FieldType} {F LL mc ms ix : Nat} {D : va_G} {dA aK aV : Nat → Nat} {K : XK} {u : XS} {x0 : Nat} {x1 : Int32} {host : String} {Post : Int32 → XS → Prop} (hX : JX X own cc nL ret F LL mc ms) (hY : JY X D dA aK aV A) (h1a : K x0 = (1, 8)) (hlk : (Cond.methodLinkNest own ix yX8_isWordByte host) ∈ jx_nest) (hF : 1 + 1 ≤ F) (hL : 8 + (2 + 11) + 20 ≤ LL) (hk : k ≤ mc) (hk2 : n ≤ ms) (hw : (st.map fun v => v.category).sum ≤ 8) (d : decode cc pc = .ok (.invokevirtual ix, 3)) (q : Nat) (hq : pc + 3 = q) (h : xw8_isWordByte x0 x1 K u  Post) (kk : ∀ (r : Int32) (u2 : XS), jj_z r → Post r u2 → JJ X A Q nL (XP D dA A K u2) k n q lv (.int r :: st)) : JJ X A Q nL (XP D dA A K u) k n pc lv (.int x1 :: .ref x0 :: st) :=
  jx_callNz (na := 1) (As := [.int x1]) hX hY jf8 h1a (fun sz => mxw8_isWordByte (jj_l X) hY.2.2.2.2 D dA aK aV x0 x1 K u  Post h sz) hlk q646 qs8 q136 q647 hd_xw8_isWordByte rfl rfl hw hF hL hk hk2 d q hq kk
/-- RaisedPress$Reader.isDigit(I)Z -/
def xw8_isDigit (x0 : Nat) (x1 : Int32) (K : XK) (u : XS) (Post : Int32 → XS → Prop) : Prop :=
  K x0 = (1, 8) ∧
  ((xi u x0 0) ≤ x1 →
    Post (0 : Int32) u) ∧
  (¬ (xi u x0 0) ≤ x1 →
    ∃ b12, (xr u x0 7) = some b12 ∧
    K b12 = (1, 0) ∧
    ∃ b16, (xr u b12 2) = some b16 ∧
    ∃ n16, K b16 = (3, n16) ∧
    vp_in x1 n16 ∧
    xs_isFigure (xi u b16 x1.toNatClampNeg) (fun r17 =>
      (r17 = 0 →
        Post (0 : Int32) u) ∧
      (¬ r17 = 0 →
        Post (1 : Int32) u)))
set_option maxHeartbeats 4000000 in
set_option maxRecDepth 100000 in
theorem mxw8_isDigit (l : Launch) (hfl : l.stackTraces = false) (D : va_G) (dA aK aV : Nat → Nat) (x0 : Nat) (x1 : Int32) (K : XK) (u : XS) (Post : Int32 → XS → Prop) (h : xw8_isDigit x0 x1 K u Post) (sz : Nat) : Met l yX8_isDigit (ws_ yX8_isDigit cX8_isDigit 2 (Option.some Jvm.ClassFile.FieldType.boolean)) (jx_rm 1 20 0 0) (jx_Pc D dA aK aV K u sz [.ref x0, .int x1]) (va_Qi (fun (r : Int32) (w : XS) => Post r w ∧ jj_z r) (jx_B D dA K) (AX K sz)) 0 0 (AX K sz) := by
  refine jx_start hfl [.ref x0, .int x1] [(0, .ref x0), (1, .int x1)] (by decide) (Nat.le_of_ble_eq_true rfl) rfl (fun X hX hY hin => ?_)
  unfold xw8_isDigit at h
  refine jj_iload_n hX dX8_isDigit_0 1 rfl 1 rfl ?_
  refine jj_aload_n hX dX8_isDigit_1 0 rfl 2 rfl ?_
  obtain ⟨k2, h⟩ := h
  refine xg8_0 hX hY k2 dX8_isDigit_2 q658 5 rfl ?_
  refine jj_icmp_ge hX dX8_isDigit_5 27 8 (by decide) rfl (fun c5 => ?_) (fun c5 => ?_)
  · have h := h.1 c5
    refine jj_iconst hX dX8_isDigit_27 ci_0 28 rfl ?_
    exact jj_retz (post := (fun (r : Int32) (w : XS) => Post r w)) (u := u) hX dX8_isDigit_28 (Nat.le_refl 0) (Nat.le_refl 0) jx_hB jj_z0 h
  · have h := h.2 c5
    refine jj_aload_n hX dX8_isDigit_8 0 rfl 9 rfl ?_
    refine xg8_7 hX hY k2 dX8_isDigit_9 q665 12 rfl ?_
    obtain ⟨b12, g12, h⟩ := h
    refine jj_st (st2 := [.ref b12]) (by rw [va_rf_some g12]) ?_
    obtain ⟨k12, h⟩ := h
    refine xgn0_2 hX hY k12 dX8_isDigit_12 nq412 15 rfl ?_
    refine jj_iload_n hX dX8_isDigit_15 1 rfl 16 rfl ?_
    obtain ⟨b16, g16, h⟩ := h
    refine jj_st (st2 := [.int x1, .ref b16]) (by rw [va_rf_some g16]) ?_
    obtain ⟨n16, k16, h⟩ := h
    obtain ⟨hi16, h⟩ := h
    refine jx_bald hX hY.1 k16 _ rfl hi16 dX8_isDigit_16 17 rfl ?_
    refine knxs_isFigure hX XP.keeps hY.2.1 nq655 (Nat.le_of_ble_eq_true rfl) (Nat.le_of_ble_eq_true rfl) (Nat.zero_le _) (Nat.zero_le _) (Nat.le_of_ble_eq_true rfl) dX8_isDigit_17 20 rfl h (fun r17 hb17 h => ?_)
    refine jj_if_eq hX dX8_isDigit_20 27 23 (by decide) rfl (fun c20 => ?_) (fun c20 => ?_)
    · have h := h.1 c20
      refine jj_iconst hX dX8_isDigit_27 ci_0 28 rfl ?_
      exact jj_retz (post := (fun (r : Int32) (w : XS) => Post r w)) (u := u) hX dX8_isDigit_28 (Nat.le_refl 0) (Nat.le_refl 0) jx_hB jj_z0 h
    · have h := h.2 c20
      refine jj_iconst hX dX8_isDigit_23 ci_1 24 rfl ?_
      refine jj_goto hX dX8_isDigit_24 28 (by decide) ?_
      exact jj_retz (post := (fun (r : Int32) (w : XS) => Post r w)) (u := u) hX dX8_isDigit_28 (Nat.le_refl 0) (Nat.le_refl 0) jx_hB jj_z1 h
theorem hd_xw8_isDigit : yX8_isDigit.cls ≠ "java/lang/invoke/MethodHandle" ∧ yX8_isDigit.cls ≠ "java/lang/invoke/VarHandle" ∧ (parseMethodDescriptor yX8_isDigit.desc).map (fun d => d.parameters.length) = some 1 := by decide +kernel
theorem kxw8_isDigit {X : JC} {A : Nat → Prop} {Q : State → Prop} {nL k n pc : Nat} {lv : List (Nat × Value)} {st : List Value} {own : String} {cc : ByteArray} {ret : Option FieldType} {F LL mc ms ix : Nat} {D : va_G} {dA aK aV : Nat → Nat} {K : XK} {u : XS} {x0 : Nat} {x1 : Int32} {Post : Int32 → XS → Prop} (hX : JX X own cc nL ret F LL mc ms) (hY : JY X D dA aK aV A) (h1a : K x0 = (1, 8)) (hlk : (Cond.methodLink own ix yX8_isDigit) ∈ lw_all) (hF : 1 + 1 ≤ F) (hL : 8 + (2 + 11) + 20 ≤ LL) (hk : k ≤ mc) (hk2 : n ≤ ms) (hw : (st.map fun v => v.category).sum ≤ 8) (d : decode cc pc = .ok (.invokevirtual ix, 3)) (q : Nat) (hq : pc + 3 = q) (h : xw8_isDigit x0 x1 K u  Post) (kk : ∀ (r : Int32) (u2 : XS), jj_z r → Post r u2 → JJ X A Q nL (XP D dA A K u2) k n q lv (.int r :: st)) : JJ X A Q nL (XP D dA A K u) k n pc lv (.int x1 :: .ref x0 :: st) :=
  jx_callVz (na := 1) (As := [.int x1]) hX hY jf8 h1a (fun sz => mxw8_isDigit (jj_l X) hY.2.2.2.2 D dA aK aV x0 x1 K u  Post h sz) hlk q653 qs9 q136 q654 ⟨rfl, hd_xw8_isDigit⟩ rfl rfl hw hF hL hk hk2 d q hq kk
theorem knxw8_isDigit {X : JC} {A : Nat → Prop} {Q : State → Prop} {nL k n pc : Nat} {lv : List (Nat × Value)} {st : List Value} {own : String} {cc : ByteArray} {ret : Option FieldType} {F LL mc ms ix : Nat} {D : va_G} {dA aK aV : Nat → Nat} {K : XK} {u : XS} {x0 : Nat} {x1 : Int32} {host : String} {Post : Int32 → XS → Prop} (hX : JX X own cc nL ret F LL mc ms) (hY : JY X D dA aK aV A) (h1a : K x0 = (1, 8)) (hlk : (Cond.methodLinkNest own ix yX8_isDigit host) ∈ jx_nest) (hF : 1 + 1 ≤ F) (hL : 8 + (2 + 11) + 20 ≤ LL) (hk : k ≤ mc) (hk2 : n ≤ ms) (hw : (st.map fun v => v.category).sum ≤ 8) (d : decode cc pc = .ok (.invokevirtual ix, 3)) (q : Nat) (hq : pc + 3 = q) (h : xw8_isDigit x0 x1 K u  Post) (kk : ∀ (r : Int32) (u2 : XS), jj_z r → Post r u2 → JJ X A Q nL (XP D dA A K u2) k n q lv (.int r :: st)) : JJ X A Q nL (XP D dA A K u) k n pc lv (.int x1 :: .ref x0 :: st) :=
  jx_callNz (na := 1) (As := [.int x1]) hX hY jf8 h1a (fun sz => mxw8_isDigit (jj_l X) hY.2.2.2.2 D dA aK aV x0 x1 K u  Post h sz) hlk q653 qs9 q136 q654 hd_xw8_isDigit rfl rfl hw hF hL hk hk2 d q hq kk
