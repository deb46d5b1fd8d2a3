set_option linter.unusedVariables false
def xw0_alike_L40_S (Post : Int32 → XS → Prop) (K : XK) (x0 : Nat) (x1 : Int32) (x2 : Int32) (R : Int32 → Int32 → XS → Prop) (x3 : Int32) (x4 : Int32) (u : XS) : Prop :=
  K x0 = (1, 0) ∧
  ∃ b46, (xr u x0 10) = some b46 ∧
  K b46 = (1, 4) ∧
  ∃ b50, (xr u b46 2) = some b50 ∧
  K b50 = (1, 15) ∧
  xw15_lineMany b50 x1 K u (fun r50 u50 =>
    ∃ b57, (xr u50 x0 10) = some b57 ∧
    K b57 = (1, 4) ∧
    ∃ b61, (xr u50 b57 2) = some b61 ∧
    K b61 = (1, 15) ∧
    xw15_lineMany b61 x2 K u50 (fun r61 u61 =>
      jw_min r50 r61 (fun r64 =>
        (r64 ≤ x4 →
          Post x3 u61) ∧
        (¬ r64 ≤ x4 →
          ∃ b75, (xr u61 x0 10) = some b75 ∧
          K b75 = (1, 4) ∧
          ∃ b78, (xr u61 b75 2) = some b78 ∧
          K b78 = (1, 15) ∧
          ∃ b85, (xr u61 x0 10) = some b85 ∧
          K b85 = (1, 4) ∧
          ∃ b88, (xr u61 b85 2) = some b88 ∧
          K b88 = (1, 15) ∧
          ∃ b92, (xr u61 b88 8) = some b92 ∧
          ∃ n92, K b92 = (2, n92) ∧
          vp_in x1 n92 ∧
          ∃ b96, (xr u61 b78 7) = some b96 ∧
          ∃ n96, K b96 = (2, n96) ∧
          vp_in ((xi u61 b92 x1.toNatClampNeg) + x4) n96 ∧
          ∃ b101, (xr u61 x0 10) = some b101 ∧
          K b101 = (1, 4) ∧
          ∃ b104, (xr u61 b101 2) = some b104 ∧
          K b104 = (1, 15) ∧
          ∃ b111, (xr u61 x0 10) = some b111 ∧
          K b111 = (1, 4) ∧
          ∃ b114, (xr u61 b111 2) = some b114 ∧
          K b114 = (1, 15) ∧
          ∃ b118, (xr u61 b114 8) = some b118 ∧
          ∃ n118, K b118 = (2, n118) ∧
          vp_in x2 n118 ∧
          ∃ b122, (xr u61 b104 7) = some b122 ∧
          ∃ n122, K b122 = (2, n122) ∧
          vp_in ((xi u61 b118 x2.toNatClampNeg) + x4) n122 ∧
          (¬ (xi u61 b96 ((xi u61 b92 x1.toNatClampNeg) + x4).toNatClampNeg) = (xi u61 b122 ((xi u61 b118 x2.toNatClampNeg) + x4).toNatClampNeg) →
            ∀ v132 : Int32, v132 = (x3 + (0 : Int32)) →
            ∀ v133 : Int32, v133 = x4 + (1 : Int32) →
            R v132 v133 u61) ∧
          ((xi u61 b96 ((xi u61 b92 x1.toNatClampNeg) + x4).toNatClampNeg) = (xi u61 b122 ((xi u61 b118 x2.toNatClampNeg) + x4).toNatClampNeg) →
            ∀ v132 : Int32, v132 = (x3 + (1 : Int32)) →
            ∀ v133 : Int32, v133 = x4 + (1 : Int32) →
            R v132 v133 u61)))))
def xw0_alike_L40 (Post : Int32 → XS → Prop) (K : XK) (x0 : Nat) (x1 : Int32) (x2 : Int32) : Nat → Int32 → Int32 → XS → Prop
  | 0 => fun _ _ _ => False
  | n + 1 => fun x3 x4 u => xw0_alike_L40_S Post K x0 x1 x2 (xw0_alike_L40 Post K x0 x1 x2 n) x3 x4 u
def xw0_alike_B23 (Post : Int32 → XS → Prop) (K : XK) (x0 : Nat) (x1 : Int32) (x2 : Int32) (s0 : Int32) (s1 : Nat) (u : XS) : Prop :=
  K s1 = (1, 0) ∧
  ∀ u23 : XS, u23 = xsi u s1 7 s0 →
  K x0 = (1, 0) ∧
  ((xi u23 x0 7) ≤ 0 →
    ∃ n, xw0_alike_L40 Post K x0 x1 x2 n (0 : Int32) (0 : Int32) u23) ∧
  (¬ (xi u23 x0 7) ≤ 0 →
    Post (-1 : Int32) u23)
/-- RaisedPress.alike(II)I -/
def xw0_alike (x0 : Nat) (x1 : Int32) (x2 : Int32) (K : XK) (u : XS) (Post : Int32 → XS → Prop) : Prop :=
  K x0 = (1, 0) ∧
  xw0_isLine x0 x1 K u (fun r3 u3 =>
    (r3 = 0 →
      xw0_alike_B23 Post K x0 x1 x2 (6 : Int32) x0 u3) ∧
    (¬ r3 = 0 →
      xw0_isLine x0 x2 K u3 (fun r11 u11 =>
        (r11 = 0 →
          xw0_alike_B23 Post K x0 x1 x2 (6 : Int32) x0 u11) ∧
        (¬ r11 = 0 →
          xw0_alike_B23 Post K x0 x1 x2 (0 : Int32) x0 u11))))
set_option maxHeartbeats 4000000 in
set_option maxRecDepth 100000 in
theorem txw0_alike_L40 {X : JC} {D : va_G} {dA aK aV : Nat → Nat} {sz : Nat} {K : XK} {Post : Int32 → XS → Prop} {x0 : Nat} {x1 : Int32} {x2 : Int32} (hX : JX X yX0_alike.cls cX0_alike 5 (Option.some Jvm.ClassFile.FieldType.int) 2 46 0 0) (hY : JY X D dA aK aV (AX K sz)) : ∀ (n : Nat) (x3 : Int32) (x4 : Int32) (u : XS), xw0_alike_L40 Post K x0 x1 x2 n x3 x4 u → JJ X (AX K sz) (jj_Q X (va_Qi (fun (r : Int32) (w : XS) => Post r w) (jx_B D dA K) (AX K sz)) 0 0 (AX K sz)) 5 (XP D dA (AX K sz) K u) 0 0 40 [(0, .ref x0), (1, .int x1), (2, .int x2), (3, .int x3), (4, .int x4)] [] := by
  intro n
  induction n with
  | zero =>
    intro x3 x4 u h
    exact h.elim
  | succ n ih =>
    intro x3 x4 u h
    have h : xw0_alike_L40_S Post K x0 x1 x2 (xw0_alike_L40 Post K x0 x1 x2 n) x3 x4 u := h
    unfold xw0_alike_L40_S at h
    refine jj_iload hX dX0_alike_40 4 rfl 42 rfl ?_
    refine jj_aload_n hX dX0_alike_42 0 rfl 43 rfl ?_
    obtain ⟨k43, h⟩ := h
    refine xg0_10 hX hY k43 dX0_alike_43 q421 46 rfl ?_
    obtain ⟨b46, g46, h⟩ := h
    refine jj_st (st2 := [.ref b46, .int x4]) (by rw [va_rf_some g46]) ?_
    obtain ⟨k46, h⟩ := h
    refine xgn4_2 hX hY k46 dX0_alike_46 nq319 49 rfl ?_
    refine jj_iload_n hX dX0_alike_49 1 rfl 50 rfl ?_
    obtain ⟨b50, g50, h⟩ := h
    refine jj_st (st2 := [.int x1, .ref b50, .int x4]) (by rw [va_rf_some g50]) ?_
    obtain ⟨k50, h⟩ := h
    refine kxw15_lineMany hX hY k50 q1148 (Nat.le_of_ble_eq_true rfl) (Nat.le_of_ble_eq_true rfl) (Nat.zero_le _) (Nat.zero_le _) (Nat.le_of_ble_eq_true rfl) dX0_alike_50 53 rfl h (fun r50 u50 h => ?_)
    refine jj_aload_n hX dX0_alike_53 0 rfl 54 rfl ?_
    refine xg0_10 hX hY k43 dX0_alike_54 q421 57 rfl ?_
    obtain ⟨b57, g57, h⟩ := h
    refine jj_st (st2 := [.ref b57, .int r50, .int x4]) (by rw [va_rf_some g57]) ?_
    obtain ⟨k57, h⟩ := h
    refine xgn4_2 hX hY k57 dX0_alike_57 nq319 60 rfl ?_
    refine jj_iload_n hX dX0_alike_60 2 rfl 61 rfl ?_
    obtain ⟨b61, g61, h⟩ := h
    refine jj_st (st2 := [.int x2, .ref b61, .int r50, .int x4]) (by rw [va_rf_some g61]) ?_
    obtain ⟨k61, h⟩ := h
    refine kxw15_lineMany hX hY k61 q1148 (Nat.le_of_ble_eq_true rfl) (Nat.le_of_ble_eq_true rfl) (Nat.zero_le _) (Nat.zero_le _) (Nat.le_of_ble_eq_true rfl) dX0_alike_61 64 rfl h (fun r61 u61 h => ?_)
    refine kjw_min hX XP.keeps q1239 (Nat.le_of_ble_eq_true rfl) (Nat.le_of_ble_eq_true rfl) (Nat.zero_le _) (Nat.zero_le _) (Nat.le_of_ble_eq_true rfl) dX0_alike_64 67 rfl h (fun r64 h => ?_)
    refine jj_icmp_ge hX dX0_alike_67 139 70 (by decide) rfl (fun c67 => ?_) (fun c67 => ?_)
    · have h := h.1 c67
      refine jj_iload_n hX dX0_alike_139 3 rfl 140 rfl ?_
      exact jj_reti (post := (fun (r : Int32) (w : XS) => Post r w)) (u := u61) hX dX0_alike_140 (Nat.le_refl 0) (Nat.le_refl 0) jx_hB h
    · have h := h.2 c67
      refine jj_iload_n hX dX0_alike_70 3 rfl 71 rfl ?_
      refine jj_aload_n hX dX0_alike_71 0 rfl 72 rfl ?_
      refine xg0_10 hX hY k43 dX0_alike_72 q421 75 rfl ?_
      obtain ⟨b75, g75, h⟩ := h
      refine jj_st (st2 := [.ref b75, .int x3]) (by rw [va_rf_some g75]) ?_
      obtain ⟨k75, h⟩ := h
      refine xgn4_2 hX hY k75 dX0_alike_75 nq319 78 rfl ?_
      obtain ⟨b78, g78, h⟩ := h
      refine jj_st (st2 := [.ref b78, .int x3]) (by rw [va_rf_some g78]) ?_
      obtain ⟨k78, h⟩ := h
      refine xgn15_7 hX hY k78 dX0_alike_78 nq1021 81 rfl ?_
      refine jj_aload_n hX dX0_alike_81 0 rfl 82 rfl ?_
      refine xg0_10 hX hY k43 dX0_alike_82 q421 85 rfl ?_
      obtain ⟨b85, g85, h⟩ := h
      refine jj_st (st2 := [.ref b85, va_rf (xr u61 b78 7), .int x3]) (by rw [va_rf_some g85]) ?_
      obtain ⟨k85, h⟩ := h
      refine xgn4_2 hX hY k85 dX0_alike_85 nq319 88 rfl ?_
      obtain ⟨b88, g88, h⟩ := h
      refine jj_st (st2 := [.ref b88, va_rf (xr u61 b78 7), .int x3]) (by rw [va_rf_some g88]) ?_
      obtain ⟨k88, h⟩ := h
      refine xgn15_8 hX hY k88 dX0_alike_88 nq1024 91 rfl ?_
      refine jj_iload_n hX dX0_alike_91 1 rfl 92 rfl ?_
      obtain ⟨b92, g92, h⟩ := h
      refine jj_st (st2 := [.int x1, .ref b92, va_rf (xr u61 b78 7), .int x3]) (by rw [va_rf_some g92]) ?_
      obtain ⟨n92, k92, h⟩ := h
      obtain ⟨hi92, h⟩ := h
      refine jx_iald hX hY.1 k92 _ rfl hi92 dX0_alike_92 93 rfl ?_
      refine jj_iload hX dX0_alike_93 4 rfl 95 rfl ?_
      refine jj_iadd hX dX0_alike_95 96 rfl ?_
      obtain ⟨b96, g96, h⟩ := h
      refine jj_st (st2 := [.int ((xi u61 b92 x1.toNatClampNeg) + x4), .ref b96, .int x3]) (by rw [va_rf_some g96]) ?_
      obtain ⟨n96, k96, h⟩ := h
      obtain ⟨hi96, h⟩ := h
      refine jx_iald hX hY.1 k96 _ rfl hi96 dX0_alike_96 97 rfl ?_
      refine jj_aload_n hX dX0_alike_97 0 rfl 98 rfl ?_
      refine xg0_10 hX hY k43 dX0_alike_98 q421 101 rfl ?_
      obtain ⟨b101, g101, h⟩ := h
      refine jj_st (st2 := [.ref b101, .int (xi u61 b96 ((xi u61 b92 x1.toNatClampNeg) + x4).toNatClampNeg), .int x3]) (by rw [va_rf_some g101]) ?_
      obtain ⟨k101, h⟩ := h
      refine xgn4_2 hX hY k101 dX0_alike_101 nq319 104 rfl ?_
      obtain ⟨b104, g104, h⟩ := h
      refine jj_st (st2 := [.ref b104, .int (xi u61 b96 ((xi u61 b92 x1.toNatClampNeg) + x4).toNatClampNeg), .int x3]) (by rw [va_rf_some g104]) ?_
      obtain ⟨k104, h⟩ := h
      refine xgn15_7 hX hY k104 dX0_alike_104 nq1021 107 rfl ?_
      refine jj_aload_n hX dX0_alike_107 0 rfl 108 rfl ?_
      refine xg0_10 hX hY k43 dX0_alike_108 q421 111 rfl ?_
      obtain ⟨b111, g111, h⟩ := h
      refine jj_st (st2 := [.ref b111, va_rf (xr u61 b104 7), .int (xi u61 b96 ((xi u61 b92 x1.toNatClampNeg) + x4).toNatClampNeg), .int x3]) (by rw [va_rf_some g111]) ?_
      obtain ⟨k111, h⟩ := h
      refine xgn4_2 hX hY k111 dX0_alike_111 nq319 114 rfl ?_
      obtain ⟨b114, g114, h⟩ := h
      refine jj_st (st2 := [.ref b114, va_rf (xr u61 b104 7), .int (xi u61 b96 ((xi u61 b92 x1.toNatClampNeg) + x4).toNatClampNeg), .int x3]) (by rw [va_rf_some g114]) ?_
      obtain ⟨k114, h⟩ := h
      refine xgn15_8 hX hY k114 dX0_alike_114 nq1024 117 rfl ?_
      refine jj_iload_n hX dX0_alike_117 2 rfl 118 rfl ?_
      obtain ⟨b118, g118, h⟩ := h
      refine jj_st (st2 := [.int x2, .ref b118, va_rf (xr u61 b104 7), .int (xi u61 b96 ((xi u61 b92 x1.toNatClampNeg) + x4).toNatClampNeg), .int x3]) (by rw [va_rf_some g118]) ?_
      obtain ⟨n118, k118, h⟩ := h
      obtain ⟨hi118, h⟩ := h
      refine jx_iald hX hY.1 k118 _ rfl hi118 dX0_alike_118 119 rfl ?_
      refine jj_iload hX dX0_alike_119 4 rfl 121 rfl ?_
      refine jj_iadd hX dX0_alike_121 122 rfl ?_
      obtain ⟨b122, g122, h⟩ := h
      refine jj_st (st2 := [.int ((xi u61 b118 x2.toNatClampNeg) + x4), .ref b122, .int (xi u61 b96 ((xi u61 b92 x1.toNatClampNeg) + x4).toNatClampNeg), .int x3]) (by rw [va_rf_some g122]) ?_
      obtain ⟨n122, k122, h⟩ := h
      obtain ⟨hi122, h⟩ := h
      refine jx_iald hX hY.1 k122 _ rfl hi122 dX0_alike_122 123 rfl ?_
      refine jj_icmp_ne hX dX0_alike_123 130 126 (by decide) rfl (fun c123 => ?_) (fun c123 => ?_)
      · have h := h.1 c123
        refine jj_iconst hX dX0_alike_130 ci_0 131 rfl ?_
        refine jj_iadd hX dX0_alike_131 132 rfl ?_
        refine jj_topi (fun v132 e132 => ?_)
        have h := h v132 e132
        refine jj_istore_n (lv2 := [(0, .ref x0), (1, .int x1), (2, .int x2), (3, .int v132), (4, .int x4)]) hX dX0_alike_132 (Nat.le_of_ble_eq_true rfl) [1, 2, 3, 0, 4] rfl 133 rfl ?_
        obtain ⟨v133, e133⟩ : ∃ y : Int32, y = x4 + (1 : Int32) := ⟨_, rfl⟩
        have h := h v133 e133
        refine jj_iinc (v := v133) (lv2 := [(0, .ref x0), (1, .int x1), (2, .int x2), (3, .int v132), (4, .int v133)]) hX dX0_alike_133 4 rfl (by rw [e133, ci_1]) (Nat.le_of_ble_eq_true rfl) [1, 2, 3, 4, 0] rfl 136 rfl ?_
        refine jj_goto hX dX0_alike_136 40 (by decide) ?_
        exact ih _ _ _ h
      · have h := h.2 c123
        refine jj_iconst hX dX0_alike_126 ci_1 127 rfl ?_
        refine jj_goto hX dX0_alike_127 131 (by decide) ?_
        refine jj_iadd hX dX0_alike_131 132 rfl ?_
        refine jj_topi (fun v132 e132 => ?_)
        have h := h v132 e132
        refine jj_istore_n (lv2 := [(0, .ref x0), (1, .int x1), (2, .int x2), (3, .int v132), (4, .int x4)]) hX dX0_alike_132 (Nat.le_of_ble_eq_true rfl) [1, 2, 3, 0, 4] rfl 133 rfl ?_
        obtain ⟨v133, e133⟩ : ∃ y : Int32, y = x4 + (1 : Int32) := ⟨_, rfl⟩
        have h := h v133 e133
        refine jj_iinc (v := v133) (lv2 := [(0, .ref x0), (1, .int x1), (2, .int x2), (3, .int v132), (4, .int v133)]) hX dX0_alike_133 4 rfl (by rw [e133, ci_1]) (Nat.le_of_ble_eq_true rfl) [1, 2, 3, 4, 0] rfl 136 rfl ?_
        refine jj_goto hX dX0_alike_136 40 (by decide) ?_
        exact ih _ _ _ h
set_option maxHeartbeats 4000000 in
set_option maxRecDepth 100000 in
theorem txw0_alike_B23 {X : JC} {D : va_G} {dA aK aV : Nat → Nat} {sz : Nat} {K : XK} {Post : Int32 → XS → Prop} {x0 : Nat} {x1 : Int32} {x2 : Int32} {s0 : Int32} {s1 : Nat} {u : XS} (hX : JX X yX0_alike.cls cX0_alike 5 (Option.some Jvm.ClassFile.FieldType.int) 2 46 0 0) (hY : JY X D dA aK aV (AX K sz)) (h : xw0_alike_B23 Post K x0 x1 x2 s0 s1 u) : JJ X (AX K sz) (jj_Q X (va_Qi (fun (r : Int32) (w : XS) => Post r w) (jx_B D dA K) (AX K sz)) 0 0 (AX K sz)) 5 (XP D dA (AX K sz) K u) 0 0 23 [(0, .ref x0), (1, .int x1), (2, .int x2)] [.int s0, .ref s1] := by
  unfold xw0_alike_B23 at h
  obtain ⟨k23, h⟩ := h
  refine xp0_7 hX hY k23 dX0_alike_23 q418 26 rfl (fun u23 e23 => ?_)
  have h := h u23 e23
  refine jj_aload_n hX dX0_alike_26 0 rfl 27 rfl ?_
  obtain ⟨k27, h⟩ := h
  refine xg0_7 hX hY k27 dX0_alike_27 q418 30 rfl ?_
  refine jj_if_le hX dX0_alike_30 35 33 (by decide) rfl (fun c30 => ?_) (fun c30 => ?_)
  · have h := h.1 c30
    refine jj_iconst hX dX0_alike_35 ci_0 36 rfl ?_
    refine jj_istore_n (lv2 := [(0, .ref x0), (1, .int x1), (2, .int x2), (3, .int (0 : Int32))]) hX dX0_alike_36 (Nat.le_of_ble_eq_true rfl) [1, 2, 3, 0] rfl 37 rfl ?_
    refine jj_iconst hX dX0_alike_37 ci_0 38 rfl ?_
    refine jj_istore (lv2 := [(0, .ref x0), (1, .int x1), (2, .int x2), (3, .int (0 : Int32)), (4, .int (0 : Int32))]) hX dX0_alike_38 (Nat.le_of_ble_eq_true rfl) [1, 2, 3, 4, 0] rfl 40 rfl ?_
    obtain ⟨n9, h⟩ := h
    exact txw0_alike_L40 hX hY n9 _ _ _ h
  · have h := h.2 c30
    refine jj_iconst hX dX0_alike_33 ci_m1 34 rfl ?_
    exact jj_reti (post := (fun (r : Int32) (w : XS) => Post r w)) (u := u23) hX dX0_alike_34 (Nat.le_refl 0) (Nat.le_refl 0) jx_hB h
set_option maxHeartbeats 4000000 in
set_option maxRecDepth 100000 in
theorem mxw0_alike (l : Launch) (hfl : l.stackTraces = false) (D : va_G) (dA aK aV : Nat → Nat) (x0 : Nat) (x1 : Int32) (x2 : Int32) (K : XK) (u : XS) (Post : Int32 → XS → Prop) (h : xw0_alike x0 x1 x2 K u Post) (sz : Nat) : Met l yX0_alike (ws_ yX0_alike cX0_alike 5 (Option.some Jvm.ClassFile.FieldType.int)) (jx_rm 2 46 0 0) (jx_Pc D dA aK aV K u sz [.ref x0, .int x1, .int x2]) (va_Qi (fun (r : Int32) (w : XS) => Post r w) (jx_B D dA K) (AX K sz)) 0 0 (AX K sz) := by
  refine jx_start hfl [.ref x0, .int x1, .int x2] [(0, .ref x0), (1, .int x1), (2, .int x2)] (by decide) (Nat.le_of_ble_eq_true rfl) rfl (fun X hX hY hin => ?_)
  unfold xw0_alike at h
  refine jj_aload_n hX dX0_alike_0 0 rfl 1 rfl ?_
  refine jj_aload_n hX dX0_alike_1 0 rfl 2 rfl ?_
  refine jj_iload_n hX dX0_alike_2 1 rfl 3 rfl ?_
  obtain ⟨k3, h⟩ := h
  refine kxw0_isLine hX hY k3 q1144 (Nat.le_of_ble_eq_true rfl) (Nat.le_of_ble_eq_true rfl) (Nat.zero_le _) (Nat.zero_le _) (Nat.le_of_ble_eq_true rfl) dX0_alike_3 6 rfl h (fun r3 u3 hb3 h => ?_)
  refine jj_if_eq hX dX0_alike_6 21 9 (by decide) rfl (fun c6 => ?_) (fun c6 => ?_)
  · have h := h.1 c6
    refine jj_bipush hX dX0_alike_21 cb_6 23 rfl ?_
    exact txw0_alike_B23 hX hY h
  · have h := h.2 c6
    refine jj_aload_n hX dX0_alike_9 0 rfl 10 rfl ?_
    refine jj_iload_n hX dX0_alike_10 2 rfl 11 rfl ?_
    refine kxw0_isLine hX hY k3 q1144 (Nat.le_of_ble_eq_true rfl) (Nat.le_of_ble_eq_true rfl) (Nat.zero_le _) (Nat.zero_le _) (Nat.le_of_ble_eq_true rfl) dX0_alike_11 14 rfl h (fun r11 u11 hb11 h => ?_)
    refine jj_if_eq hX dX0_alike_14 21 17 (by decide) rfl (fun c14 => ?_) (fun c14 => ?_)
    · have h := h.1 c14
      refine jj_bipush hX dX0_alike_21 cb_6 23 rfl ?_
      exact txw0_alike_B23 hX hY h
    · have h := h.2 c14
      refine jj_iconst hX dX0_alike_17 ci_0 18 rfl ?_
      refine jj_goto hX dX0_alike_18 23 (by decide) ?_
      exact txw0_alike_B23 hX hY h
theorem hd_xw0_alike : yX0_alike.cls ≠ "java/lang/invoke/MethodHandle" ∧ yX0_alike.cls ≠ "java/lang/invoke/VarHandle" ∧ (parseMethodDescriptor yX0_alike.desc).map (fun d => d.parameters.length) = some 2 := by decide +kernel
theorem kxw0_alike {X : JC} {A : Nat → Prop} {Q : State → Prop} {nL k n pc : Nat} {lv : List (Nat × Value)} {st : List Value} {own : String} {cc : ByteArray} {ret : Option FieldType} {F LL mc ms ix : Nat} {D : va_G} {dA aK aV : Nat → Nat} {K : XK} {u : XS} {x0 : Nat} {x1 : Int32} {x2 : Int32} {Post : Int32 → XS → Prop} (hX : JX X own cc nL ret F LL mc ms) (hY : JY X D dA aK aV A) (h1a : K x0 = (1, 0)) (hlk : (Cond.methodLink own ix yX0_alike) ∈ lw_all) (hF : 2 + 1 ≤ F) (hL : 8 + (5 + 11) + 46 ≤ LL) (hk : k ≤ mc) (hk2 : n ≤ ms) (hw : (st.map fun v => v.category).sum ≤ 8) (d : decode cc pc = .ok (.invokevirtual ix, 3)) (q : Nat) (hq : pc + 3 = q) (h : xw0_alike x0 x1 x2 K u  Post) (kk : ∀ (r : Int32) (u2 : XS), Post r u2 → JJ X A Q nL (XP D dA A K u2) k n q lv (.int r :: st)) : JJ X A Q nL (XP D dA A K u) k n pc lv (.int x2 :: .int x1 :: .ref x0 :: st) :=
  jx_callVi (na := 2) (As := [.int x1, .int x2]) hX hY jf0 h1a (fun sz => mxw0_alike (jj_l X) hY.2.2.2.2 D dA aK aV x0 x1 x2 K u  Post h sz) hlk q1236 q1237 q120 q1238 ⟨rfl, hd_xw0_alike⟩ rfl rfl hw hF hL hk hk2 d q hq kk
theorem knxw0_alike {X : JC} {A : Nat → Prop} {Q : State → Prop} {nL k n pc : Nat} {lv : List (Nat × Value)} {st : List Value} {own : String} {cc : ByteArray} {ret : Option FieldType} {F LL mc ms ix : Nat} {D : va_G} {dA aK aV : Nat → Nat} {K : XK} {u : XS} {x0 : Nat} {x1 : Int32} {x2 : Int32} {host : String} {Post : Int32 → XS → Prop} (hX : JX X own cc nL ret F LL mc ms) (hY : JY X D dA aK aV A) (h1a : K x0 = (1, 0)) (hlk : (Cond.methodLinkNest own ix yX0_alike host) ∈ jx_nest) (hF : 2 + 1 ≤ F) (hL : 8 + (5 + 11) + 46 ≤ LL) (hk : k ≤ mc) (hk2 : n ≤ ms) (hw : (st.map fun v => v.category).sum ≤ 8) (d : decode cc pc = .ok (.invokevirtual ix, 3)) (q : Nat) (hq : pc + 3 = q) (h : xw0_alike x0 x1 x2 K u  Post) (kk : ∀ (r : Int32) (u2 : XS), Post r u2 → JJ X A Q nL (XP D dA A K u2) k n q lv (.int r :: st)) : JJ X A Q nL (XP D dA A K u) k n pc lv (.int x2 :: .int x1 :: .ref x0 :: st) :=
  jx_callNi (na := 2) (As := [.int x1, .int x2]) hX hY jf0 h1a (fun sz => mxw0_alike (jj_l X) hY.2.2.2.2 D dA aK aV x0 x1 x2 K u  Post h sz) hlk q1236 q1237 q120 q1238 hd_xw0_alike rfl rfl hw hF hL hk hk2 d q hq kk
def xw0_longest_L4_S (Post : Int32 → XS → Prop) (K : XK) (x0 : Nat) (R : Int32 → Int32 → XS → Prop) (x1 : Int32) (x2 : Int32) (u : XS) : Prop :=
  K x0 = (1, 0) ∧
  xw0_isSet x0 K u (fun r5 u5 =>
    (r5 = 0 →
      xw0_answer x0 x1 K u5 (fun r67 u67 =>
        Post r67 u67)) ∧
    (¬ r5 = 0 →
      ∃ b16, (xr u5 x0 10) = some b16 ∧
      K b16 = (1, 4) ∧
      ∃ b19, (xr u5 b16 2) = some b19 ∧
      K b19 = (1, 15) ∧
      ∃ b22, (xr u5 b19 3) = some b22 ∧
      ∃ n22, K b22 = (2, n22) ∧
      ((nI n22) ≤ x2 →
        xw0_answer x0 x1 K u5 (fun r67 u67 =>
          Post r67 u67)) ∧
      (¬ (nI n22) ≤ x2 →
        (x1 < 0 →
          ∀ v59 : Int32, v59 = x2 + (1 : Int32) →
          R x2 v59 u5) ∧
        (¬ x1 < 0 →
          ∃ b34, (xr u5 x0 10) = some b34 ∧
          K b34 = (1, 4) ∧
          ∃ b37, (xr u5 b34 2) = some b37 ∧
          K b37 = (1, 15) ∧
          ∃ b41, (xr u5 b37 3) = some b41 ∧
          ∃ n41, K b41 = (2, n41) ∧
          vp_in x2 n41 ∧
          ∃ b46, (xr u5 x0 10) = some b46 ∧
          K b46 = (1, 4) ∧
          ∃ b49, (xr u5 b46 2) = some b49 ∧
          K b49 = (1, 15) ∧
          ∃ b53, (xr u5 b49 3) = some b53 ∧
          ∃ n53, K b53 = (2, n53) ∧
          vp_in x1 n53 ∧
          ((xi u5 b41 x2.toNatClampNeg) ≤ (xi u5 b53 x1.toNatClampNeg) →
            ∀ v59 : Int32, v59 = x2 + (1 : Int32) →
            R x1 v59 u5) ∧
          (¬ (xi u5 b41 x2.toNatClampNeg) ≤ (xi u5 b53 x1.toNatClampNeg) →
            ∀ v59 : Int32, v59 = x2 + (1 : Int32) →
            R x2 v59 u5)))))
def xw0_longest_L4 (Post : Int32 → XS → Prop) (K : XK) (x0 : Nat) : Nat → Int32 → Int32 → XS → Prop
  | 0 => fun _ _ _ => False
  | n + 1 => fun x1 x2 u => xw0_longest_L4_S Post K x0 (xw0_longest_L4 Post K x0 n) x1 x2 u
/-- RaisedPress.longest()I -/
def xw0_longest (x0 : Nat) (K : XK) (u : XS) (Post : Int32 → XS → Prop) : Prop :=
  ∃ n, xw0_longest_L4 Post K x0 n (-1 : Int32) (0 : Int32) u
set_option maxHeartbeats 4000000 in
set_option maxRecDepth 100000 in
theorem txw0_longest_L4 {X : JC} {D : va_G} {dA aK aV : Nat → Nat} {sz : Nat} {K : XK} {Post : Int32 → XS → Prop} {x0 : Nat} (hX : JX X yX0_longest.cls cX0_longest 3 (Option.some Jvm.ClassFile.FieldType.int) 1 21 0 0) (hY : JY X D dA aK aV (AX K sz)) : ∀ (n : Nat) (x1 : Int32) (x2 : Int32) (u : XS), xw0_longest_L4 Post K x0 n x1 x2 u → JJ X (AX K sz) (jj_Q X (va_Qi (fun (r : Int32) (w : XS) => Post r w) (jx_B D dA K) (AX K sz)) 0 0 (AX K sz)) 3 (XP D dA (AX K sz) K u) 0 0 4 [(0, .ref x0), (1, .int x1), (2, .int x2)] [] := by
  intro n
  induction n with
  | zero =>
    intro x1 x2 u h
    exact h.elim
  | succ n ih =>
    intro x1 x2 u h
    have h : xw0_longest_L4_S Post K x0 (xw0_longest_L4 Post K x0 n) x1 x2 u := h
    unfold xw0_longest_L4_S at h
    refine jj_aload_n hX dX0_longest_4 0 rfl 5 rfl ?_
    obtain ⟨k5, h⟩ := h
    refine kxw0_isSet hX hY k5 q1115 (Nat.le_of_ble_eq_true rfl) (Nat.le_of_ble_eq_true rfl) (Nat.zero_le _) (Nat.zero_le _) (Nat.le_of_ble_eq_true rfl) dX0_longest_5 8 rfl h (fun r5 u5 hb5 h => ?_)
    refine jj_if_eq hX dX0_longest_8 65 11 (by decide) rfl (fun c8 => ?_) (fun c8 => ?_)
    · have h := h.1 c8
      refine jj_aload_n hX dX0_longest_65 0 rfl 66 rfl ?_
      refine jj_iload_n hX dX0_longest_66 1 rfl 67 rfl ?_
      refine kxw0_answer hX hY k5 q1077 (Nat.le_of_ble_eq_true rfl) (Nat.le_of_ble_eq_true rfl) (Nat.zero_le _) (Nat.zero_le _) (Nat.le_of_ble_eq_true rfl) dX0_longest_67 70 rfl h (fun r67 u67 h => ?_)
      exact jj_reti (post := (fun (r : Int32) (w : XS) => Post r w)) (u := u67) hX dX0_longest_70 (Nat.le_refl 0) (Nat.le_refl 0) jx_hB h
    · have h := h.2 c8
      refine jj_iload_n hX dX0_longest_11 2 rfl 12 rfl ?_
      refine jj_aload_n hX dX0_longest_12 0 rfl 13 rfl ?_
      refine xg0_10 hX hY k5 dX0_longest_13 q421 16 rfl ?_
      obtain ⟨b16, g16, h⟩ := h
      refine jj_st (st2 := [.ref b16, .int x2]) (by rw [va_rf_some g16]) ?_
      obtain ⟨k16, h⟩ := h
      refine xgn4_2 hX hY k16 dX0_longest_16 nq319 19 rfl ?_
      obtain ⟨b19, g19, h⟩ := h
      refine jj_st (st2 := [.ref b19, .int x2]) (by rw [va_rf_some g19]) ?_
      obtain ⟨k19, h⟩ := h
      refine xgn15_3 hX hY k19 dX0_longest_19 nq1009 22 rfl ?_
      obtain ⟨b22, g22, h⟩ := h
      refine jj_st (st2 := [.ref b22, .int x2]) (by rw [va_rf_some g22]) ?_
      obtain ⟨n22, k22, h⟩ := h
      refine jx_alen hX hY.1 k22 dX0_longest_22 23 rfl ?_
      refine jj_icmp_ge hX dX0_longest_23 65 26 (by decide) rfl (fun c23 => ?_) (fun c23 => ?_)
      · have h := h.1 c23
        refine jj_aload_n hX dX0_longest_65 0 rfl 66 rfl ?_
        refine jj_iload_n hX dX0_longest_66 1 rfl 67 rfl ?_
        refine kxw0_answer hX hY k5 q1077 (Nat.le_of_ble_eq_true rfl) (Nat.le_of_ble_eq_true rfl) (Nat.zero_le _) (Nat.zero_le _) (Nat.le_of_ble_eq_true rfl) dX0_longest_67 70 rfl h (fun r67 u67 h => ?_)
        exact jj_reti (post := (fun (r : Int32) (w : XS) => Post r w)) (u := u67) hX dX0_longest_70 (Nat.le_refl 0) (Nat.le_refl 0) jx_hB h
      · have h := h.2 c23
        refine jj_iload_n hX dX0_longest_26 1 rfl 27 rfl ?_
        refine jj_if_lt hX dX0_longest_27 57 30 (by decide) rfl (fun c27 => ?_) (fun c27 => ?_)
        · have h := h.1 c27
          refine jj_iload_n hX dX0_longest_57 2 rfl 58 rfl ?_
          refine jj_istore_n (lv2 := [(0, .ref x0), (1, .int x2), (2, .int x2)]) hX dX0_longest_58 (Nat.le_of_ble_eq_true rfl) [1, 0, 2] rfl 59 rfl ?_
          obtain ⟨v59, e59⟩ : ∃ y : Int32, y = x2 + (1 : Int32) := ⟨_, rfl⟩
          have h := h v59 e59
          refine jj_iinc (v := v59) (lv2 := [(0, .ref x0), (1, .int x2), (2, .int v59)]) hX dX0_longest_59 2 rfl (by rw [e59, ci_1]) (Nat.le_of_ble_eq_true rfl) [1, 2, 0] rfl 62 rfl ?_
          refine jj_goto hX dX0_longest_62 4 (by decide) ?_
          exact ih _ _ _ h
        · have h := h.2 c27
          refine jj_aload_n hX dX0_longest_30 0 rfl 31 rfl ?_
          refine xg0_10 hX hY k5 dX0_longest_31 q421 34 rfl ?_
          obtain ⟨b34, g34, h⟩ := h
          refine jj_st (st2 := [.ref b34]) (by rw [va_rf_some g34]) ?_
          obtain ⟨k34, h⟩ := h
          refine xgn4_2 hX hY k34 dX0_longest_34 nq319 37 rfl ?_
          obtain ⟨b37, g37, h⟩ := h
          refine jj_st (st2 := [.ref b37]) (by rw [va_rf_some g37]) ?_
          obtain ⟨k37, h⟩ := h
          refine xgn15_3 hX hY k37 dX0_longest_37 nq1009 40 rfl ?_
          refine jj_iload_n hX dX0_longest_40 2 rfl 41 rfl ?_
          obtain ⟨b41, g41, h⟩ := h
          refine jj_st (st2 := [.int x2, .ref b41]) (by rw [va_rf_some g41]) ?_
          obtain ⟨n41, k41, h⟩ := h
          obtain ⟨hi41, h⟩ := h
          refine jx_iald hX hY.1 k41 _ rfl hi41 dX0_longest_41 42 rfl ?_
          refine jj_aload_n hX dX0_longest_42 0 rfl 43 rfl ?_
          refine xg0_10 hX hY k5 dX0_longest_43 q421 46 rfl ?_
          obtain ⟨b46, g46, h⟩ := h
          refine jj_st (st2 := [.ref b46, .int (xi u5 b41 x2.toNatClampNeg)]) (by rw [va_rf_some g46]) ?_
          obtain ⟨k46, h⟩ := h
          refine xgn4_2 hX hY k46 dX0_longest_46 nq319 49 rfl ?_
          obtain ⟨b49, g49, h⟩ := h
          refine jj_st (st2 := [.ref b49, .int (xi u5 b41 x2.toNatClampNeg)]) (by rw [va_rf_some g49]) ?_
          obtain ⟨k49, h⟩ := h
          refine xgn15_3 hX hY k49 dX0_longest_49 nq1009 52 rfl ?_
          refine jj_iload_n hX dX0_longest_52 1 rfl 53 rfl ?_
          obtain ⟨b53, g53, h⟩ := h
          refine jj_st (st2 := [.int x1, .ref b53, .int (xi u5 b41 x2.toNatClampNeg)]) (by rw [va_rf_some g53]) ?_
          obtain ⟨n53, k53, h⟩ := h
          obtain ⟨hi53, h⟩ := h
          refine jx_iald hX hY.1 k53 _ rfl hi53 dX0_longest_53 54 rfl ?_
          refine jj_icmp_le hX dX0_longest_54 59 57 (by decide) rfl (fun c54 => ?_) (fun c54 => ?_)
          · have h := h.1 c54
            obtain ⟨v59, e59⟩ : ∃ y : Int32, y = x2 + (1 : Int32) := ⟨_, rfl⟩
            have h := h v59 e59
            refine jj_iinc (v := v59) (lv2 := [(0, .ref x0), (1, .int x1), (2, .int v59)]) hX dX0_longest_59 2 rfl (by rw [e59, ci_1]) (Nat.le_of_ble_eq_true rfl) [1, 2, 0] rfl 62 rfl ?_
            refine jj_goto hX dX0_longest_62 4 (by decide) ?_
            exact ih _ _ _ h
          · have h := h.2 c54
            refine jj_iload_n hX dX0_longest_57 2 rfl 58 rfl ?_
            refine jj_istore_n (lv2 := [(0, .ref x0), (1, .int x2), (2, .int x2)]) hX dX0_longest_58 (Nat.le_of_ble_eq_true rfl) [1, 0, 2] rfl 59 rfl ?_
            obtain ⟨v59, e59⟩ : ∃ y : Int32, y = x2 + (1 : Int32) := ⟨_, rfl⟩
            have h := h v59 e59
            refine jj_iinc (v := v59) (lv2 := [(0, .ref x0), (1, .int x2), (2, .int v59)]) hX dX0_longest_59 2 rfl (by rw [e59, ci_1]) (Nat.le_of_ble_eq_true rfl) [1, 2, 0] rfl 62 rfl ?_
            refine jj_goto hX dX0_longest_62 4 (by decide) ?_
            exact ih _ _ _ h
set_option maxHeartbeats 4000000 in
set_option maxRecDepth 100000 in
theorem mxw0_longest (l : Launch) (hfl : l.stackTraces = false) (D : va_G) (dA aK aV : Nat → Nat) (x0 : Nat) (K : XK) (u : XS) (Post : Int32 → XS → Prop) (h : xw0_longest x0 K u Post) (sz : Nat) : Met l yX0_longest (ws_ yX0_longest cX0_longest 3 (Option.some Jvm.ClassFile.FieldType.int)) (jx_rm 1 21 0 0) (jx_Pc D dA aK aV K u sz [.ref x0]) (va_Qi (fun (r : Int32) (w : XS) => Post r w) (jx_B D dA K) (AX K sz)) 0 0 (AX K sz) := by
  refine jx_start hfl [.ref x0] [(0, .ref x0)] (by decide) (Nat.le_of_ble_eq_true rfl) rfl (fun X hX hY hin => ?_)
  unfold xw0_longest at h
  refine jj_iconst hX dX0_longest_0 ci_m1 1 rfl ?_
  refine jj_istore_n (lv2 := [(0, .ref x0), (1, .int (-1 : Int32))]) hX dX0_longest_1 (Nat.le_of_ble_eq_true rfl) [1, 0] rfl 2 rfl ?_
  refine jj_iconst hX dX0_longest_2 ci_0 3 rfl ?_
  refine jj_istore_n (lv2 := [(0, .ref x0), (1, .int (-1 : Int32)), (2, .int (0 : Int32))]) hX dX0_longest_3 (Nat.le_of_ble_eq_true rfl) [1, 2, 0] rfl 4 rfl ?_
  obtain ⟨n9, h⟩ := h
  exact txw0_longest_L4 hX hY n9 _ _ _ h
theorem hd_xw0_longest : yX0_longest.cls ≠ "java/lang/invoke/MethodHandle" ∧ yX0_longest.cls ≠ "java/lang/invoke/VarHandle" ∧ (parseMethodDescriptor yX0_longest.desc).map (fun d => d.parameters.length) = some 0 := by decide +kernel
theorem kxw0_longest {X : JC} {A : Nat → Prop} {Q : State → Prop} {nL k n pc : Nat} {lv : List (Nat × Value)} {st : List Value} {own : String} {cc : ByteArray} {ret : Option FieldType} {F LL mc ms ix : Nat} {D : va_G} {dA aK aV : Nat → Nat} {K : XK} {u : XS} {x0 : Nat} {Post : Int32 → XS → Prop} (hX : JX X own cc nL ret F LL mc ms) (hY : JY X D dA aK aV A) (h1a : K x0 = (1, 0)) (hlk : (Cond.methodLink own ix yX0_longest) ∈ lw_all) (hF : 1 + 1 ≤ F) (hL : 8 + (3 + 11) + 21 ≤ LL) (hk : k ≤ mc) (hk2 : n ≤ ms) (hw : (st.map fun v => v.category).sum ≤ 8) (d : decode cc pc = .ok (.invokevirtual ix, 3)) (q : Nat) (hq : pc + 3 = q) (h : xw0_longest x0 K u  Post) (kk : ∀ (r : Int32) (u2 : XS), Post r u2 → JJ X A Q nL (XP D dA A K u2) k n q lv (.int r :: st)) : JJ X A Q nL (XP D dA A K u) k n pc lv (.ref x0 :: st) :=
  jx_callVi (na := 0) (As := []) hX hY jf0 h1a (fun sz => mxw0_longest (jj_l X) hY.2.2.2.2 D dA aK aV x0 K u  Post h sz) hlk q1241 q1242 q120 q1243 ⟨rfl, hd_xw0_longest⟩ rfl rfl hw hF hL hk hk2 d q hq kk
theorem knxw0_longest {X : JC} {A : Nat → Prop} {Q : State → Prop} {nL k n pc : Nat} {lv : List (Nat × Value)} {st : List Value} {own : String} {cc : ByteArray} {ret : Option FieldType} {F LL mc ms ix : Nat} {D : va_G} {dA aK aV : Nat → Nat} {K : XK} {u : XS} {x0 : Nat} {host : String} {Post : Int32 → XS → Prop} (hX : JX X own cc nL ret F LL mc ms) (hY : JY X D dA aK aV A) (h1a : K x0 = (1, 0)) (hlk : (Cond.methodLinkNest own ix yX0_longest host) ∈ jx_nest) (hF : 1 + 1 ≤ F) (hL : 8 + (3 + 11) + 21 ≤ LL) (hk : k ≤ mc) (hk2 : n ≤ ms) (hw : (st.map fun v => v.category).sum ≤ 8) (d : decode cc pc = .ok (.invokevirtual ix, 3)) (q : Nat) (hq : pc + 3 = q) (h : xw0_longest x0 K u  Post) (kk : ∀ (r : Int32) (u2 : XS), Post r u2 → JJ X A Q nL (XP D dA A K u2) k n q lv (.int r :: st)) : JJ X A Q nL (XP D dA A K u) k n pc lv (.ref x0 :: st) :=
  jx_callNi (na := 0) (As := []) hX hY jf0 h1a (fun sz => mxw0_longest (jj_l X) hY.2.2.2.2 D dA aK aV x0 K u  Post h sz) hlk q1241 q1242 q120 q1243 hd_xw0_longest rfl rfl hw hF hL hk hk2 d q hq kk
def xw0_inLine_L31_S (Post : Int32 → XS → Prop) (K : XK) (x0 : Nat) (x1 : Int32) (R : Int32 → Int32 → XS → Prop) (x2 : Int32) (x3 : Int32) (u : XS) : Prop :=
  K x0 = (1, 0) ∧
  ∃ b36, (xr u x0 10) = some b36 ∧
  K b36 = (1, 4) ∧
  ∃ b39, (xr u b36 2) = some b39 ∧
  K b39 = (1, 15) ∧
  ∃ b42, (xr u b39 4) = some b42 ∧
  ∃ n42, K b42 = (2, n42) ∧
  ((nI n42) ≤ x3 →
    Post x2 u) ∧
  (¬ (nI n42) ≤ x3 →
    ∃ b51, (xr u x0 10) = some b51 ∧
    K b51 = (1, 4) ∧
    ∃ b54, (xr u b51 2) = some b54 ∧
    K b54 = (1, 15) ∧
    ∃ b58, (xr u b54 4) = some b58 ∧
    ∃ n58, K b58 = (2, n58) ∧
    vp_in x3 n58 ∧
    (x1 < (xi u b58 x3.toNatClampNeg) →
      ∀ v85 : Int32, v85 = (x2 + (0 : Int32)) →
      ∀ v86 : Int32, v86 = x3 + (1 : Int32) →
      R v85 v86 u) ∧
    (¬ x1 < (xi u b58 x3.toNatClampNeg) →
      ∃ b67, (xr u x0 10) = some b67 ∧
      K b67 = (1, 4) ∧
      ∃ b70, (xr u b67 2) = some b70 ∧
      K b70 = (1, 15) ∧
      ∃ b74, (xr u b70 5) = some b74 ∧
      ∃ n74, K b74 = (2, n74) ∧
      vp_in x3 n74 ∧
      ((xi u b74 x3.toNatClampNeg) < x1 →
        ∀ v85 : Int32, v85 = (x2 + (0 : Int32)) →
        ∀ v86 : Int32, v86 = x3 + (1 : Int32) →
        R v85 v86 u) ∧
      (¬ (xi u b74 x3.toNatClampNeg) < x1 →
        ∀ v85 : Int32, v85 = (x2 + (1 : Int32)) →
        ∀ v86 : Int32, v86 = x3 + (1 : Int32) →
        R v85 v86 u)))
def xw0_inLine_L31 (Post : Int32 → XS → Prop) (K : XK) (x0 : Nat) (x1 : Int32) : Nat → Int32 → Int32 → XS → Prop
  | 0 => fun _ _ _ => False
  | n + 1 => fun x2 x3 u => xw0_inLine_L31_S Post K x0 x1 (xw0_inLine_L31 Post K x0 x1 n) x2 x3 u
def xw0_inLine_B15 (Post : Int32 → XS → Prop) (K : XK) (x0 : Nat) (x1 : Int32) (s0 : Int32) (s1 : Nat) (u : XS) : Prop :=
  K s1 = (1, 0) ∧
  ∀ u15 : XS, u15 = xsi u s1 7 s0 →
  K x0 = (1, 0) ∧
  ((xi u15 x0 7) ≤ 0 →
    ∃ n, xw0_inLine_L31 Post K x0 x1 n (0 : Int32) (0 : Int32) u15) ∧
  (¬ (xi u15 x0 7) ≤ 0 →
    Post (-1 : Int32) u15)
/-- RaisedPress.inLine(I)I -/
def xw0_inLine (x0 : Nat) (x1 : Int32) (K : XK) (u : XS) (Post : Int32 → XS → Prop) : Prop :=
  K x0 = (1, 0) ∧
  xw0_isLine x0 x1 K u (fun r3 u3 =>
    (r3 = 0 →
      xw0_inLine_B15 Post K x0 x1 (6 : Int32) x0 u3) ∧
    (¬ r3 = 0 →
      xw0_inLine_B15 Post K x0 x1 (0 : Int32) x0 u3))
set_option maxHeartbeats 4000000 in
set_option maxRecDepth 100000 in
theorem txw0_inLine_L31 {X : JC} {D : va_G} {dA aK aV : Nat → Nat} {sz : Nat} {K : XK} {Post : Int32 → XS → Prop} {x0 : Nat} {x1 : Int32} (hX : JX X yX0_inLine.cls cX0_inLine 4 (Option.some Jvm.ClassFile.FieldType.int) 2 46 0 0) (hY : JY X D dA aK aV (AX K sz)) : ∀ (n : Nat) (x2 : Int32) (x3 : Int32) (u : XS), xw0_inLine_L31 Post K x0 x1 n x2 x3 u → JJ X (AX K sz) (jj_Q X (va_Qi (fun (r : Int32) (w : XS) => Post r w) (jx_B D dA K) (AX K sz)) 0 0 (AX K sz)) 4 (XP D dA (AX K sz) K u) 0 0 31 [(0, .ref x0), (1, .int x1), (2, .int x2), (3, .int x3)] [] := by
  intro n
  induction n with
  | zero =>
    intro x2 x3 u h
    exact h.elim
  | succ n ih =>
    intro x2 x3 u h
    have h : xw0_inLine_L31_S Post K x0 x1 (xw0_inLine_L31 Post K x0 x1 n) x2 x3 u := h
    unfold xw0_inLine_L31_S at h
    refine jj_iload_n hX dX0_inLine_31 3 rfl 32 rfl ?_
    refine jj_aload_n hX dX0_inLine_32 0 rfl 33 rfl ?_
    obtain ⟨k33, h⟩ := h
    refine xg0_10 hX hY k33 dX0_inLine_33 q421 36 rfl ?_
    obtain ⟨b36, g36, h⟩ := h
    refine jj_st (st2 := [.ref b36, .int x3]) (by rw [va_rf_some g36]) ?_
    obtain ⟨k36, h⟩ := h
    refine xgn4_2 hX hY k36 dX0_inLine_36 nq319 39 rfl ?_
    obtain ⟨b39, g39, h⟩ := h
    refine jj_st (st2 := [.ref b39, .int x3]) (by rw [va_rf_some g39]) ?_
    obtain ⟨k39, h⟩ := h
    refine xgn15_4 hX hY k39 dX0_inLine_39 nq1012 42 rfl ?_
    obtain ⟨b42, g42, h⟩ := h
    refine jj_st (st2 := [.ref b42, .int x3]) (by rw [va_rf_some g42]) ?_
    obtain ⟨n42, k42, h⟩ := h
    refine jx_alen hX hY.1 k42 dX0_inLine_42 43 rfl ?_
    refine jj_icmp_ge hX dX0_inLine_43 92 46 (by decide) rfl (fun c43 => ?_) (fun c43 => ?_)
    · have h := h.1 c43
      refine jj_iload_n hX dX0_inLine_92 2 rfl 93 rfl ?_
      exact jj_reti (post := (fun (r : Int32) (w : XS) => Post r w)) (u := u) hX dX0_inLine_93 (Nat.le_refl 0) (Nat.le_refl 0) jx_hB h
    · have h := h.2 c43
      refine jj_iload_n hX dX0_inLine_46 2 rfl 47 rfl ?_
      refine jj_aload_n hX dX0_inLine_47 0 rfl 48 rfl ?_
      refine xg0_10 hX hY k33 dX0_inLine_48 q421 51 rfl ?_
      obtain ⟨b51, g51, h⟩ := h
      refine jj_st (st2 := [.ref b51, .int x2]) (by rw [va_rf_some g51]) ?_
      obtain ⟨k51, h⟩ := h
      refine xgn4_2 hX hY k51 dX0_inLine_51 nq319 54 rfl ?_
      obtain ⟨b54, g54, h⟩ := h
      refine jj_st (st2 := [.ref b54, .int x2]) (by rw [va_rf_some g54]) ?_
      obtain ⟨k54, h⟩ := h
      refine xgn15_4 hX hY k54 dX0_inLine_54 nq1012 57 rfl ?_
      refine jj_iload_n hX dX0_inLine_57 3 rfl 58 rfl ?_
      obtain ⟨b58, g58, h⟩ := h
      refine jj_st (st2 := [.int x3, .ref b58, .int x2]) (by rw [va_rf_some g58]) ?_
      obtain ⟨n58, k58, h⟩ := h
      obtain ⟨hi58, h⟩ := h
      refine jx_iald hX hY.1 k58 _ rfl hi58 dX0_inLine_58 59 rfl ?_
      refine jj_iload_n hX dX0_inLine_59 1 rfl 60 rfl ?_
      refine jj_icmp_gt hX dX0_inLine_60 83 63 (by decide) rfl (fun c60 => ?_) (fun c60 => ?_)
      · have h := h.1 c60
        refine jj_iconst hX dX0_inLine_83 ci_0 84 rfl ?_
        refine jj_iadd hX dX0_inLine_84 85 rfl ?_
        refine jj_topi (fun v85 e85 => ?_)
        have h := h v85 e85
        refine jj_istore_n (lv2 := [(0, .ref x0), (1, .int x1), (2, .int v85), (3, .int x3)]) hX dX0_inLine_85 (Nat.le_of_ble_eq_true rfl) [1, 2, 0, 3] rfl 86 rfl ?_
        obtain ⟨v86, e86⟩ : ∃ y : Int32, y = x3 + (1 : Int32) := ⟨_, rfl⟩
        have h := h v86 e86
        refine jj_iinc (v := v86) (lv2 := [(0, .ref x0), (1, .int x1), (2, .int v85), (3, .int v86)]) hX dX0_inLine_86 3 rfl (by rw [e86, ci_1]) (Nat.le_of_ble_eq_true rfl) [1, 2, 3, 0] rfl 89 rfl ?_
        refine jj_goto hX dX0_inLine_89 31 (by decide) ?_
        exact ih _ _ _ h
      · have h := h.2 c60
        refine jj_aload_n hX dX0_inLine_63 0 rfl 64 rfl ?_
        refine xg0_10 hX hY k33 dX0_inLine_64 q421 67 rfl ?_
        obtain ⟨b67, g67, h⟩ := h
        refine jj_st (st2 := [.ref b67, .int x2]) (by rw [va_rf_some g67]) ?_
        obtain ⟨k67, h⟩ := h
        refine xgn4_2 hX hY k67 dX0_inLine_67 nq319 70 rfl ?_
        obtain ⟨b70, g70, h⟩ := h
        refine jj_st (st2 := [.ref b70, .int x2]) (by rw [va_rf_some g70]) ?_
        obtain ⟨k70, h⟩ := h
        refine xgn15_5 hX hY k70 dX0_inLine_70 nq1015 73 rfl ?_
        refine jj_iload_n hX dX0_inLine_73 3 rfl 74 rfl ?_
        obtain ⟨b74, g74, h⟩ := h
        refine jj_st (st2 := [.int x3, .ref b74, .int x2]) (by rw [va_rf_some g74]) ?_
        obtain ⟨n74, k74, h⟩ := h
        obtain ⟨hi74, h⟩ := h
        refine jx_iald hX hY.1 k74 _ rfl hi74 dX0_inLine_74 75 rfl ?_
        refine jj_iload_n hX dX0_inLine_75 1 rfl 76 rfl ?_
        refine jj_icmp_lt hX dX0_inLine_76 83 79 (by decide) rfl (fun c76 => ?_) (fun c76 => ?_)
        · have h := h.1 c76
          refine jj_iconst hX dX0_inLine_83 ci_0 84 rfl ?_
          refine jj_iadd hX dX0_inLine_84 85 rfl ?_
          refine jj_topi (fun v85 e85 => ?_)
          have h := h v85 e85
          refine jj_istore_n (lv2 := [(0, .ref x0), (1, .int x1), (2, .int v85), (3, .int x3)]) hX dX0_inLine_85 (Nat.le_of_ble_eq_true rfl) [1, 2, 0, 3] rfl 86 rfl ?_
          obtain ⟨v86, e86⟩ : ∃ y : Int32, y = x3 + (1 : Int32) := ⟨_, rfl⟩
          have h := h v86 e86
          refine jj_iinc (v := v86) (lv2 := [(0, .ref x0), (1, .int x1), (2, .int v85), (3, .int v86)]) hX dX0_inLine_86 3 rfl (by rw [e86, ci_1]) (Nat.le_of_ble_eq_true rfl) [1, 2, 3, 0] rfl 89 rfl ?_
          refine jj_goto hX dX0_inLine_89 31 (by decide) ?_
          exact ih _ _ _ h
        · have h := h.2 c76
          refine jj_iconst hX dX0_inLine_79 ci_1 80 rfl ?_
          refine jj_goto hX dX0_inLine_80 84 (by decide) ?_
          refine jj_iadd hX dX0_inLine_84 85 rfl ?_
          refine jj_topi (fun v85 e85 => ?_)
          have h := h v85 e85
          refine jj_istore_n (lv2 := [(0, .ref x0), (1, .int x1), (2, .int v85), (3, .int x3)]) hX dX0_inLine_85 (Nat.le_of_ble_eq_true rfl) [1, 2, 0, 3] rfl 86 rfl ?_
          obtain ⟨v86, e86⟩ : ∃ y : Int32, y = x3 + (1 : Int32) := ⟨_, rfl⟩
          have h := h v86 e86
          refine jj_iinc (v := v86) (lv2 := [(0, .ref x0), (1, .int x1), (2, .int v85), (3, .int v86)]) hX dX0_inLine_86 3 rfl (by rw [e86, ci_1]) (Nat.le_of_ble_eq_true rfl) [1, 2, 3, 0] rfl 89 rfl ?_
          refine jj_goto hX dX0_inLine_89 31 (by decide) ?_
          exact ih _ _ _ h
set_option maxHeartbeats 4000000 in
set_option maxRecDepth 100000 in
theorem txw0_inLine_B15 {X : JC} {D : va_G} {dA aK aV : Nat → Nat} {sz : Nat} {K : XK} {Post : Int32 → XS → Prop} {x0 : Nat} {x1 : Int32} {s0 : Int32} {s1 : Nat} {u : XS} (hX : JX X yX0_inLine.cls cX0_inLine 4 (Option.some Jvm.ClassFile.FieldType.int) 2 46 0 0) (hY : JY X D dA aK aV (AX K sz)) (h : xw0_inLine_B15 Post K x0 x1 s0 s1 u) : JJ X (AX K sz) (jj_Q X (va_Qi (fun (r : Int32) (w : XS) => Post r w) (jx_B D dA K) (AX K sz)) 0 0 (AX K sz)) 4 (XP D dA (AX K sz) K u) 0 0 15 [(0, .ref x0), (1, .int x1)] [.int s0, .ref s1] := by
  unfold xw0_inLine_B15 at h
  obtain ⟨k15, h⟩ := h
  refine xp0_7 hX hY k15 dX0_inLine_15 q418 18 rfl (fun u15 e15 => ?_)
  have h := h u15 e15
  refine jj_aload_n hX dX0_inLine_18 0 rfl 19 rfl ?_
  obtain ⟨k19, h⟩ := h
  refine xg0_7 hX hY k19 dX0_inLine_19 q418 22 rfl ?_
  refine jj_if_le hX dX0_inLine_22 27 25 (by decide) rfl (fun c22 => ?_) (fun c22 => ?_)
  · have h := h.1 c22
    refine jj_iconst hX dX0_inLine_27 ci_0 28 rfl ?_
    refine jj_istore_n (lv2 := [(0, .ref x0), (1, .int x1), (2, .int (0 : Int32))]) hX dX0_inLine_28 (Nat.le_of_ble_eq_true rfl) [1, 2, 0] rfl 29 rfl ?_
    refine jj_iconst hX dX0_inLine_29 ci_0 30 rfl ?_
    refine jj_istore_n (lv2 := [(0, .ref x0), (1, .int x1), (2, .int (0 : Int32)), (3, .int (0 : Int32))]) hX dX0_inLine_30 (Nat.le_of_ble_eq_true rfl) [1, 2, 3, 0] rfl 31 rfl ?_
    obtain ⟨n9, h⟩ := h
    exact txw0_inLine_L31 hX hY n9 _ _ _ h
  · have h := h.2 c22
    refine jj_iconst hX dX0_inLine_25 ci_m1 26 rfl ?_
    exact jj_reti (post := (fun (r : Int32) (w : XS) => Post r w)) (u := u15) hX dX0_inLine_26 (Nat.le_refl 0) (Nat.le_refl 0) jx_hB h
set_option maxHeartbeats 4000000 in
set_option maxRecDepth 100000 in
theorem mxw0_inLine (l : Launch) (hfl : l.stackTraces = false) (D : va_G) (dA aK aV : Nat → Nat) (x0 : Nat) (x1 : Int32) (K : XK) (u : XS) (Post : Int32 → XS → Prop) (h : xw0_inLine x0 x1 K u Post) (sz : Nat) : Met l yX0_inLine (ws_ yX0_inLine cX0_inLine 4 (Option.some Jvm.ClassFile.FieldType.int)) (jx_rm 2 46 0 0) (jx_Pc D dA aK aV K u sz [.ref x0, .int x1]) (va_Qi (fun (r : Int32) (w : XS) => Post r w) (jx_B D dA K) (AX K sz)) 0 0 (AX K sz) := by
  refine jx_start hfl [.ref x0, .int x1] [(0, .ref x0), (1, .int x1)] (by decide) (Nat.le_of_ble_eq_true rfl) rfl (fun X hX hY hin => ?_)
  unfold xw0_inLine at h
  refine jj_aload_n hX dX0_inLine_0 0 rfl 1 rfl ?_
  refine jj_aload_n hX dX0_inLine_1 0 rfl 2 rfl ?_
  refine jj_iload_n hX dX0_inLine_2 1 rfl 3 rfl ?_
  obtain ⟨k3, h⟩ := h
  refine kxw0_isLine hX hY k3 q1144 (Nat.le_of_ble_eq_true rfl) (Nat.le_of_ble_eq_true rfl) (Nat.zero_le _) (Nat.zero_le _) (Nat.le_of_ble_eq_true rfl) dX0_inLine_3 6 rfl h (fun r3 u3 hb3 h => ?_)
  refine jj_if_eq hX dX0_inLine_6 13 9 (by decide) rfl (fun c6 => ?_) (fun c6 => ?_)
  · have h := h.1 c6
    refine jj_bipush hX dX0_inLine_13 cb_6 15 rfl ?_
    exact txw0_inLine_B15 hX hY h
  · have h := h.2 c6
    refine jj_iconst hX dX0_inLine_9 ci_0 10 rfl ?_
    refine jj_goto hX dX0_inLine_10 15 (by decide) ?_
    exact txw0_inLine_B15 hX hY h
theorem hd_xw0_inLine : yX0_inLine.cls ≠ "java/lang/invoke/MethodHandle" ∧ yX0_inLine.cls ≠ "java/lang/invoke/VarHandle" ∧ (parseMethodDescriptor yX0_inLine.desc).map (fun d => d.parameters.length) = some 1 := by decide +kernel
theorem kxw0_inLine {X : JC} {A : Nat → Prop} {Q : State → Prop} {nL k n pc : Nat} {lv : List (Nat × Value)} {st : List Value} {own : String} {cc : ByteArray} {ret : Option FieldType} {F LL mc ms ix : Nat} {D : va_G} {dA aK aV : Nat → Nat} {K : XK} {u : XS} {x0 : Nat} {x1 : Int32} {Post : Int32 → XS → Prop} (hX : JX X own cc nL ret F LL mc ms) (hY : JY X D dA aK aV A) (h1a : K x0 = (1, 0)) (hlk : (Cond.methodLink own ix yX0_inLine) ∈ lw_all) (hF : 2 + 1 ≤ F) (hL : 8 + (4 + 11) + 46 ≤ LL) (hk : k ≤ mc) (hk2 : n ≤ ms) (hw : (st.map fun v => v.category).sum ≤ 8) (d : decode cc pc = .ok (.invokevirtual ix, 3)) (q : Nat) (hq : pc + 3 = q) (h : xw0_inLine x0 x1 K u  Post) (kk : ∀ (r : Int32) (u2 : XS), Post r u2 → JJ X A Q nL (XP D dA A K u2) k n q lv (.int r :: st)) : JJ X A Q nL (XP D dA A K u) k n pc lv (.int x1 :: .ref x0 :: st) :=
  jx_callVi (na := 1) (As := [.int x1]) hX hY jf0 h1a (fun sz => mxw0_inLine (jj_l X) hY.2.2.2.2 D dA aK aV x0 x1 K u  Post h sz) hlk q1245 q1246 q120 q1247 ⟨rfl, hd_xw0_inLine⟩ rfl rfl hw hF hL hk hk2 d q hq kk
theorem knxw0_inLine {X : JC} {A : Nat → Prop} {Q : State → Prop} {nL k n pc : Nat} {lv : List (Nat × Value)} {st : List Value} {own : String} {cc : ByteArray} {ret : Option FieldType} {F LL mc ms ix : Nat} {D : va_G} {dA aK aV : Nat → Nat} {K : XK} {u : XS} {x0 : Nat} {x1 : Int32} {host : String} {Post : Int32 → XS → Prop} (hX : JX X own cc nL ret F LL mc ms) (hY : JY X D dA aK aV A) (h1a : K x0 = (1, 0)) (hlk : (Cond.methodLinkNest own ix yX0_inLine host) ∈ jx_nest) (hF : 2 + 1 ≤ F) (hL : 8 + (4 + 11) + 46 ≤ LL) (hk : k ≤ mc) (hk2 : n ≤ ms) (hw : (st.map fun v => v.category).sum ≤ 8) (d : decode cc pc = .ok (.invokevirtual ix, 3)) (q : Nat) (hq : pc + 3 = q) (h : xw0_inLine x0 x1 K u  Post) (kk : ∀ (r : Int32) (u2 : XS), Post r u2 → JJ X A Q nL (XP D dA A K u2) k n q lv (.int r :: st)) : JJ X A Q nL (XP D dA A K u) k n pc lv (.int x1 :: .ref x0 :: st) :=
  jx_callNi (na := 1) (As := [.int x1]) hX hY jf0 h1a (fun sz => mxw0_inLine (jj_l X) hY.2.2.2.2 D dA aK aV x0 x1 K u  Post h sz) hlk q1245 q1246 q120 q1247 hd_xw0_inLine rfl rfl hw hF hL hk hk2 d q hq kk
def xw0_wasted_B15 (Post : Int32 → XS → Prop) (K : XK) (x0 : Nat) (x1 : Int32) (s0 : Int32) (s1 : Nat) (u : XS) : Prop :=
  K s1 = (1, 0) ∧
  ∀ u15 : XS, u15 = xsi u s1 7 s0 →
  K x0 = (1, 0) ∧
  ((xi u15 x0 7) ≤ 0 →
    xw0_table x0 K u15 (fun r30 u30 =>
      K r30 = (1, 5) ∧
      ∃ b40, (xr u30 x0 10) = some b40 ∧
      K b40 = (1, 4) ∧
      ∃ b44, (xr u30 b40 2) = some b44 ∧
      K b44 = (1, 15) ∧
      xw15_lineMany b44 x1 K u30 (fun r44 u44 =>
        Post ((xi u30 r30 5) - r44) u44))) ∧
  (¬ (xi u15 x0 7) ≤ 0 →
    Post (-1 : Int32) u15)
/-- RaisedPress.wasted(I)I -/
def xw0_wasted (x0 : Nat) (x1 : Int32) (K : XK) (u : XS) (Post : Int32 → XS → Prop) : Prop :=
  K x0 = (1, 0) ∧
  xw0_isLine x0 x1 K u (fun r3 u3 =>
    (r3 = 0 →
      xw0_wasted_B15 Post K x0 x1 (6 : Int32) x0 u3) ∧
    (¬ r3 = 0 →
      xw0_wasted_B15 Post K x0 x1 (0 : Int32) x0 u3))
set_option maxHeartbeats 4000000 in
set_option maxRecDepth 100000 in
theorem txw0_wasted_B15 {X : JC} {D : va_G} {dA aK aV : Nat → Nat} {sz : Nat} {K : XK} {Post : Int32 → XS → Prop} {x0 : Nat} {x1 : Int32} {s0 : Int32} {s1 : Nat} {u : XS} (hX : JX X yX0_wasted.cls cX0_wasted 2 (Option.some Jvm.ClassFile.FieldType.int) 2 46 0 0) (hY : JY X D dA aK aV (AX K sz)) (h : xw0_wasted_B15 Post K x0 x1 s0 s1 u) : JJ X (AX K sz) (jj_Q X (va_Qi (fun (r : Int32) (w : XS) => Post r w) (jx_B D dA K) (AX K sz)) 0 0 (AX K sz)) 2 (XP D dA (AX K sz) K u) 0 0 15 [(0, .ref x0), (1, .int x1)] [.int s0, .ref s1] := by
  unfold xw0_wasted_B15 at h
  obtain ⟨k15, h⟩ := h
  refine xp0_7 hX hY k15 dX0_wasted_15 q418 18 rfl (fun u15 e15 => ?_)
  have h := h u15 e15
  refine jj_aload_n hX dX0_wasted_18 0 rfl 19 rfl ?_
  obtain ⟨k19, h⟩ := h
  refine xg0_7 hX hY k19 dX0_wasted_19 q418 22 rfl ?_
  refine jj_if_le hX dX0_wasted_22 29 25 (by decide) rfl (fun c22 => ?_) (fun c22 => ?_)
  · have h := h.1 c22
    refine jj_aload_n hX dX0_wasted_29 0 rfl 30 rfl ?_
    refine kxw0_table hX hY k19 q879 (Nat.le_of_ble_eq_true rfl) (Nat.le_of_ble_eq_true rfl) (Nat.zero_le _) (Nat.zero_le _) (Nat.le_of_ble_eq_true rfl) dX0_wasted_30 33 rfl h (fun r30 u30 h => ?_)
    obtain ⟨k33, h⟩ := h
    refine xgn5_5 hX hY k33 dX0_wasted_33 nq295 36 rfl ?_
    refine jj_aload_n hX dX0_wasted_36 0 rfl 37 rfl ?_
    refine xg0_10 hX hY k19 dX0_wasted_37 q421 40 rfl ?_
    obtain ⟨b40, g40, h⟩ := h
    refine jj_st (st2 := [.ref b40, .int (xi u30 r30 5)]) (by rw [va_rf_some g40]) ?_
    obtain ⟨k40, h⟩ := h
    refine xgn4_2 hX hY k40 dX0_wasted_40 nq319 43 rfl ?_
    refine jj_iload_n hX dX0_wasted_43 1 rfl 44 rfl ?_
    obtain ⟨b44, g44, h⟩ := h
    refine jj_st (st2 := [.int x1, .ref b44, .int (xi u30 r30 5)]) (by rw [va_rf_some g44]) ?_
    obtain ⟨k44, h⟩ := h
    refine kxw15_lineMany hX hY k44 q1148 (Nat.le_of_ble_eq_true rfl) (Nat.le_of_ble_eq_true rfl) (Nat.zero_le _) (Nat.zero_le _) (Nat.le_of_ble_eq_true rfl) dX0_wasted_44 47 rfl h (fun r44 u44 h => ?_)
    refine jj_isub hX dX0_wasted_47 48 rfl ?_
    exact jj_reti (post := (fun (r : Int32) (w : XS) => Post r w)) (u := u44) hX dX0_wasted_48 (Nat.le_refl 0) (Nat.le_refl 0) jx_hB h
  · have h := h.2 c22
    refine jj_iconst hX dX0_wasted_25 ci_m1 26 rfl ?_
    refine jj_goto hX dX0_wasted_26 48 (by decide) ?_
    exact jj_reti (post := (fun (r : Int32) (w : XS) => Post r w)) (u := u15) hX dX0_wasted_48 (Nat.le_refl 0) (Nat.le_refl 0) jx_hB h
set_option maxHeartbeats 4000000 in
set_option maxRecDepth 100000 in
theorem mxw0_wasted (l : Launch) (hfl : l.stackTraces = false) (D : va_G) (dA aK aV : Nat → Nat) (x0 : Nat) (x1 : Int32) (K : XK) (u : XS) (Post : Int32 → XS → Prop) (h : xw0_wasted x0 x1 K u Post) (sz : Nat) : Met l yX0_wasted (ws_ yX0_wasted cX0_wasted 2 (Option.some Jvm.ClassFile.FieldType.int)) (jx_rm 2 46 0 0) (jx_Pc D dA aK aV K u sz [.ref x0, .int x1]) (va_Qi (fun (r : Int32) (w : XS) => Post r w) (jx_B D dA K) (AX K sz)) 0 0 (AX K sz) := by
  refine jx_start hfl [.ref x0, .int x1] [(0, .ref x0), (1, .int x1)] (by decide) (Nat.le_of_ble_eq_true rfl) rfl (fun X hX hY hin => ?_)
  unfold xw0_wasted at h
  refine jj_aload_n hX dX0_wasted_0 0 rfl 1 rfl ?_
  refine jj_aload_n hX dX0_wasted_1 0 rfl 2 rfl ?_
  refine jj_iload_n hX dX0_wasted_2 1 rfl 3 rfl ?_
  obtain ⟨k3, h⟩ := h
  refine kxw0_isLine hX hY k3 q1144 (Nat.le_of_ble_eq_true rfl) (Nat.le_of_ble_eq_true rfl) (Nat.zero_le _) (Nat.zero_le _) (Nat.le_of_ble_eq_true rfl) dX0_wasted_3 6 rfl h (fun r3 u3 hb3 h => ?_)
  refine jj_if_eq hX dX0_wasted_6 13 9 (by decide) rfl (fun c6 => ?_) (fun c6 => ?_)
  · have h := h.1 c6
    refine jj_bipush hX dX0_wasted_13 cb_6 15 rfl ?_
    exact txw0_wasted_B15 hX hY h
  · have h := h.2 c6
    refine jj_iconst hX dX0_wasted_9 ci_0 10 rfl ?_
    refine jj_goto hX dX0_wasted_10 15 (by decide) ?_
    exact txw0_wasted_B15 hX hY h
theorem hd_xw0_wasted : yX0_wasted.cls ≠ "java/lang/invoke/MethodHandle" ∧ yX0_wasted.cls ≠ "java/lang/invoke/VarHandle" ∧ (parseMethodDescriptor yX0_wasted.desc).map (fun d => d.parameters.length) = some 1 := by decide +kernel
theorem kxw0_wasted {X : JC} {A : Nat → Prop} {Q : State → Prop} {nL k n pc : Nat} {lv : List (Nat × Value)} {st : List Value} {own : String} {cc : ByteArray} {ret : Option FieldType} {F LL mc ms ix : Nat} {D : va_G} {dA aK aV : Nat → Nat} {K : XK} {u : XS} {x0 : Nat} {x1 : Int32} {Post : Int32 → XS → Prop} (hX : JX X own cc nL ret F LL mc ms) (hY : JY X D dA aK aV A) (h1a : K x0 = (1, 0)) (hlk : (Cond.methodLink own ix yX0_wasted) ∈ lw_all) (hF : 2 + 1 ≤ F) (hL : 8 + (2 + 11) + 46 ≤ LL) (hk : k ≤ mc) (hk2 : n ≤ ms) (hw : (st.map fun v => v.category).sum ≤ 8) (d : decode cc pc = .ok (.invokevirtual ix, 3)) (q : Nat) (hq : pc + 3 = q) (h : xw0_wasted x0 x1 K u  Post) (kk : ∀ (r : Int32) (u2 : XS), Post r u2 → JJ X A Q nL (XP D dA A K u2) k n q lv (.int r :: st)) : JJ X A Q nL (XP D dA A K u) k n pc lv (.int x1 :: .ref x0 :: st) :=
  jx_callVi (na := 1) (As := [.int x1]) hX hY jf0 h1a (fun sz => mxw0_wasted (jj_l X) hY.2.2.2.2 D dA aK aV x0 x1 K u  Post h sz) hlk q1249 q1250 q120 q1251 ⟨rfl, hd_xw0_wasted⟩ rfl rfl hw hF hL hk hk2 d q hq kk
theorem knxw0_wasted {X : JC} {A : Nat → Prop} {Q : State → Prop} {nL k n pc : Nat} {lv : List (Nat × Value)} {st : List Value} {own : String} {cc : ByteArray} {ret : Option FieldType} {F LL mc ms ix : Nat} {D : va_G} {dA aK aV : Nat → Nat} {K : XK} {u : XS} {x0 : Nat} {x1 : Int32} {host : String} {Post : Int32 → XS → Prop} (hX : JX X own cc nL ret F LL mc ms) (hY : JY X D dA aK aV A) (h1a : K x0 = (1, 0)) (hlk : (Cond.methodLinkNest own ix yX0_wasted host) ∈ jx_nest) (hF : 2 + 1 ≤ F) (hL : 8 + (2 + 11) + 46 ≤ LL) (hk : k ≤ mc) (hk2 : n ≤ ms) (hw : (st.map fun v => v.category).sum ≤ 8) (d : decode cc pc = .ok (.invokevirtual ix, 3)) (q : Nat) (hq : pc + 3 = q) (h : xw0_wasted x0 x1 K u  Post) (kk : ∀ (r : Int32) (u2 : XS), Post r u2 → JJ X A Q nL (XP D dA A K u2) k n q lv (.int r :: st)) : JJ X A Q nL (XP D dA A K u) k n pc lv (.int x1 :: .ref x0 :: st) :=
  jx_callNi (na := 1) (As := [.int x1]) hX hY jf0 h1a (fun sz => mxw0_wasted (jj_l X) hY.2.2.2.2 D dA aK aV x0 x1 K u  Post h sz) hlk q1249 q1250 q120 q1251 hd_xw0_wasted rfl rfl hw hF hL hk hk2 d q hq kk
/-- RaisedPress.saved()I -/
def xw0_saved (x0 : Nat) (K : XK) (u : XS) (mc ms : Nat) (Post : Int32 → XK → XS → Prop) : Prop :=
  K x0 = (1, 0) ∧
  ∃ m1 w1, m1 ≤ mc ∧ w1 ≤ ms ∧ xw0_plain x0 K u m1 w1 (fun r1 K1 u1 =>
    ((xi u1 x0 7) ≤ 0 →
      ∃ b21, (xr u1 x0 10) = some b21 ∧
      K1 b21 = (1, 4) ∧
      ∃ b24, (xr u1 b21 2) = some b24 ∧
      K1 b24 = (1, 15) ∧
      ∃ b27, (xr u1 b24 1) = some b27 ∧
      ∃ n27, K1 b27 = (2, n27) ∧
      Post (r1 - (nI n27)) K1 u1) ∧
    (¬ (xi u1 x0 7) ≤ 0 →
      Post (-1 : Int32) K1 u1))
set_option maxHeartbeats 4000000 in
set_option maxRecDepth 100000 in
theorem mxw0_saved (l : Launch) (hfl : l.stackTraces = false) (D : va_G) (dA aK aV : Nat → Nat) (x0 : Nat) (K : XK) (u : XS) (mc ms : Nat) (Post : Int32 → XK → XS → Prop) (h : xw0_saved x0 K u mc ms Post) (sz : Nat) : Met l yX0_saved (ws_ yX0_saved cX0_saved 2 (Option.some Jvm.ClassFile.FieldType.int)) (jx_rm 5 107 mc ms) (jx_Pc D dA aK aV K u sz [.ref x0]) (va_Qi (fun (r : Int32) (w : XK × XS) => Post r w.1 w.2) (jx_BA D dA K sz) (AX K sz)) mc ms (AX K sz) := by
  refine jx_start hfl [.ref x0] [(0, .ref x0)] (by decide) (Nat.le_of_ble_eq_true rfl) rfl (fun X hX hY hin => ?_)
  unfold xw0_saved at h
  refine jj_aload_n hX dX0_saved_0 0 rfl 1 rfl ?_
  obtain ⟨k1, h⟩ := h
  obtain ⟨m1, w1, hc1, hs1, h⟩ := h
  refine kxw0_plain hX hY k1 q1256 (Nat.le_of_ble_eq_true rfl) (Nat.le_of_ble_eq_true rfl) (by simpa using hc1) (by simpa using hs1) (Nat.le_of_ble_eq_true rfl) dX0_saved_1 4 rfl h (fun r1 K1 u1 hle1 h => ?_)
  have k1_1 := hle1.at k1 (by simp)
  have hl1 := XLe.rf.tr hle1
  refine jj_cs (k2 := m1) (n2 := w1) (by simp) (by simp) ?_
  refine jj_istore_n (lv2 := [(0, .ref x0), (1, .int r1)]) hX dX0_saved_4 (Nat.le_of_ble_eq_true rfl) [1, 0] rfl 5 rfl ?_
  refine jj_aload_n hX dX0_saved_5 0 rfl 6 rfl ?_
  refine xg0_7 hX hY k1_1 dX0_saved_6 q418 9 rfl ?_
  refine jj_if_le hX dX0_saved_9 16 12 (by decide) rfl (fun c9 => ?_) (fun c9 => ?_)
  · have h := h.1 c9
    refine jj_iload_n hX dX0_saved_16 1 rfl 17 rfl ?_
    refine jj_aload_n hX dX0_saved_17 0 rfl 18 rfl ?_
    refine xg0_10 hX hY k1_1 dX0_saved_18 q421 21 rfl ?_
    obtain ⟨b21, g21, h⟩ := h
    refine jj_st (st2 := [.ref b21, .int r1]) (by rw [va_rf_some g21]) ?_
    obtain ⟨k21, h⟩ := h
    refine xgn4_2 hX hY k21 dX0_saved_21 nq319 24 rfl ?_
    obtain ⟨b24, g24, h⟩ := h
    refine jj_st (st2 := [.ref b24, .int r1]) (by rw [va_rf_some g24]) ?_
    obtain ⟨k24, h⟩ := h
    refine xgn15_1 hX hY k24 dX0_saved_24 nq1003 27 rfl ?_
    obtain ⟨b27, g27, h⟩ := h
    refine jj_st (st2 := [.ref b27, .int r1]) (by rw [va_rf_some g27]) ?_
    obtain ⟨n27, k27, h⟩ := h
    refine jx_alen hX hY.1 k27 dX0_saved_27 28 rfl ?_
    refine jj_isub hX dX0_saved_28 29 rfl ?_
    exact jj_reti (post := (fun (r : Int32) (w : XK × XS) => Post r w.1 w.2)) (u := (K1, u1)) hX dX0_saved_29 hc1 hs1 (jx_hBA hl1) h
  · have h := h.2 c9
    refine jj_iconst hX dX0_saved_12 ci_m1 13 rfl ?_
    refine jj_goto hX dX0_saved_13 29 (by decide) ?_
    exact jj_reti (post := (fun (r : Int32) (w : XK × XS) => Post r w.1 w.2)) (u := (K1, u1)) hX dX0_saved_29 hc1 hs1 (jx_hBA hl1) h
theorem hd_xw0_saved : yX0_saved.cls ≠ "java/lang/invoke/MethodHandle" ∧ yX0_saved.cls ≠ "java/lang/invoke/VarHandle" ∧ (parseMethodDescriptor yX0_saved.desc).map (fun d => d.parameters.length) = some 0 := by decide +kernel
theorem kxw0_saved {X : JC} {A : Nat → Prop} {Q : State → Prop} {nL k n pc : Nat} {lv : List (Nat × Value)} {st : List Value} {own : String} {cc : ByteArray} {ret : Option FieldType} {F LL mc ms ix mc2 ms2 : Nat} {D : va_G} {dA aK aV : Nat → Nat} {K : XK} {u : XS} {x0 : Nat} {Post : Int32 → XK → XS → Prop} (hX : JX X own cc nL ret F LL mc ms) (hY : JY X D dA aK aV A) (h1a : K x0 = (1, 0)) (hlk : (Cond.methodLink own ix yX0_saved) ∈ lw_all) (hF : 5 + 1 ≤ F) (hL : 8 + (2 + 11) + 107 ≤ LL) (hk : k + mc2 ≤ mc) (hk2 : n + ms2 ≤ ms) (hw : (st.map fun v => v.category).sum ≤ 8) (d : decode cc pc = .ok (.invokevirtual ix, 3)) (q : Nat) (hq : pc + 3 = q) (h : xw0_saved x0 K u mc2 ms2 Post) (kk : ∀ (r : Int32) (K2 : XK) (u2 : XS), XLe K K2 → Post r K2 u2 → JJ X A Q nL (XP D dA A K2 u2) (k + mc2) (n + ms2) q lv (.int r :: st)) : JJ X A Q nL (XP D dA A K u) k n pc lv (.ref x0 :: st) :=
  jx_callViA (na := 0) (As := []) hX hY jf0 h1a (fun sz => mxw0_saved (jj_l X) hY.2.2.2.2 D dA aK aV x0 K u mc2 ms2 Post h sz) hlk q1253 q1254 q120 q1255 ⟨rfl, hd_xw0_saved⟩ rfl rfl hw hF hL hk hk2 d q hq kk
theorem knxw0_saved {X : JC} {A : Nat → Prop} {Q : State → Prop} {nL k n pc : Nat} {lv : List (Nat × Value)} {st : List Value} {own : String} {cc : ByteArray} {ret : Option FieldType} {F LL mc ms ix mc2 ms2 : Nat} {D : va_G} {dA aK aV : Nat → Nat} {K : XK} {u : XS} {x0 : Nat} {host : String} {Post : Int32 → XK → XS → Prop} (hX : JX X own cc nL ret F LL mc ms) (hY : JY X D dA aK aV A) (h1a : K x0 = (1, 0)) (hlk : (Cond.methodLinkNest own ix yX0_saved host) ∈ jx_nest) (hF : 5 + 1 ≤ F) (hL : 8 + (2 + 11) + 107 ≤ LL) (hk : k + mc2 ≤ mc) (hk2 : n + ms2 ≤ ms) (hw : (st.map fun v => v.category).sum ≤ 8) (d : decode cc pc = .ok (.invokevirtual ix, 3)) (q : Nat) (hq : pc + 3 = q) (h : xw0_saved x0 K u mc2 ms2 Post) (kk : ∀ (r : Int32) (K2 : XK) (u2 : XS), XLe K K2 → Post r K2 u2 → JJ X A Q nL (XP D dA A K2 u2) (k + mc2) (n + ms2) q lv (.int r :: st)) : JJ X A Q nL (XP D dA A K u) k n pc lv (.ref x0 :: st) :=
  jx_callNiA (na := 0) (As := []) hX hY jf0 h1a (fun sz => mxw0_saved (jj_l X) hY.2.2.2.2 D dA aK aV x0 K u mc2 ms2 Post h sz) hlk q1253 q1254 q120 q1255 hd_xw0_saved rfl rfl hw hF hL hk hk2 d q hq kk
def xw0_frequent_L26_S (G7 : Int32 → Int32 → Int32 → XS → Prop) (Post : Int32 → XS → Prop) (K : XK) (x0 : Nat) (x1 : Int32) (x2 : Int32) (x3 : Int32) (R : Int32 → Int32 → XS → Prop) (x4 : Int32) (x5 : Int32) (u : XS) : Prop :=
  K x0 = (1, 0) ∧
  ∃ b32, (xr u x0 10) = some b32 ∧
  K b32 = (1, 4) ∧
  ∃ b35, (xr u b32 2) = some b35 ∧
  K b35 = (1, 15) ∧
  ∃ b38, (xr u b35 0) = some b38 ∧
  ∃ n38, K b38 = (3, n38) ∧
  ((nI n38) ≤ x5 →
    (x2 < x4 →
      ∀ v94 : Int32, v94 = (x3 - (96 : Int32)) →
      ∀ v95 : Int32, v95 = x3 + (1 : Int32) →
      G7 v94 x4 v95 u) ∧
    (¬ x2 < x4 →
      ∀ v95 : Int32, v95 = x3 + (1 : Int32) →
      G7 x1 x2 v95 u)) ∧
  (¬ (nI n38) ≤ x5 →
    ∃ b48, (xr u x0 10) = some b48 ∧
    K b48 = (1, 4) ∧
    ∃ b51, (xr u b48 2) = some b51 ∧
    K b51 = (1, 15) ∧
    ∃ b56, (xr u b51 0) = some b56 ∧
    ∃ n56, K b56 = (3, n56) ∧
    vp_in x5 n56 ∧
    xs_small (xi u b56 x5.toNatClampNeg) (fun r57 =>
      (¬ r57 = x3 →
        ∀ v70 : Int32, v70 = (x4 + (0 : Int32)) →
        ∀ v72 : Int32, v72 = x5 + (1 : Int32) →
        R v70 v72 u) ∧
      (r57 = x3 →
        ∀ v70 : Int32, v70 = (x4 + (1 : Int32)) →
        ∀ v72 : Int32, v72 = x5 + (1 : Int32) →
        R v70 v72 u)))
def xw0_frequent_L26 (G7 : Int32 → Int32 → Int32 → XS → Prop) (Post : Int32 → XS → Prop) (K : XK) (x0 : Nat) (x1 : Int32) (x2 : Int32) (x3 : Int32) : Nat → Int32 → Int32 → XS → Prop
  | 0 => fun _ _ _ => False
  | n + 1 => fun x4 x5 u => xw0_frequent_L26_S G7 Post K x0 x1 x2 x3 (xw0_frequent_L26 G7 Post K x0 x1 x2 x3 n) x4 x5 u
def xw0_frequent_L7_S (Post : Int32 → XS → Prop) (K : XK) (x0 : Nat) (R : Int32 → Int32 → Int32 → XS → Prop) (x1 : Int32) (x2 : Int32) (x3 : Int32) (u : XS) : Prop :=
  ((122 : Int32) < x3 →
    K x0 = (1, 0) ∧
    xw0_answer x0 x1 K u (fun r103 u103 =>
      Post r103 u103)) ∧
  (¬ (122 : Int32) < x3 →
    K x0 = (1, 0) ∧
    xw0_isSet x0 K u (fun r14 u14 =>
      (r14 = 0 →
        xw0_answer x0 x1 K u14 (fun r103 u103 =>
          Post r103 u103)) ∧
      (¬ r14 = 0 →
        ∃ n, xw0_frequent_L26 R Post K x0 x1 x2 x3 n (0 : Int32) (0 : Int32) u14)))
def xw0_frequent_L7 (Post : Int32 → XS → Prop) (K : XK) (x0 : Nat) : Nat → Int32 → Int32 → Int32 → XS → Prop
  | 0 => fun _ _ _ _ => False
  | n + 1 => fun x1 x2 x3 u => xw0_frequent_L7_S Post K x0 (xw0_frequent_L7 Post K x0 n) x1 x2 x3 u
/-- RaisedPress.frequent()I -/
def xw0_frequent (x0 : Nat) (K : XK) (u : XS) (Post : Int32 → XS → Prop) : Prop :=
  ∃ n, xw0_frequent_L7 Post K x0 n (-1 : Int32) (0 : Int32) (97 : Int32) u
set_option maxHeartbeats 4000000 in
set_option maxRecDepth 100000 in
theorem txw0_frequent_L26 {X : JC} {D : va_G} {dA aK aV : Nat → Nat} {sz : Nat} {K : XK} {G7 : Int32 → Int32 → Int32 → XS → Prop} {Post : Int32 → XS → Prop} {x0 : Nat} {x1 : Int32} {x2 : Int32} {x3 : Int32} (hX : JX X yX0_frequent.cls cX0_frequent 6 (Option.some Jvm.ClassFile.FieldType.int) 2 40 0 0) (hY : JY X D dA aK aV (AX K sz)) (hG7 : ∀ (y1 : Int32) (y2 : Int32) (y3 : Int32) (u : XS), G7 y1 y2 y3 u → JJ X (AX K sz) (jj_Q X (va_Qi (fun (r : Int32) (w : XS) => Post r w) (jx_B D dA K) (AX K sz)) 0 0 (AX K sz)) 6 (XP D dA (AX K sz) K u) 0 0 7 [(0, .ref x0), (1, .int y1), (2, .int y2), (3, .int y3)] []) : ∀ (n : Nat) (x4 : Int32) (x5 : Int32) (u : XS), xw0_frequent_L26 G7 Post K x0 x1 x2 x3 n x4 x5 u → JJ X (AX K sz) (jj_Q X (va_Qi (fun (r : Int32) (w : XS) => Post r w) (jx_B D dA K) (AX K sz)) 0 0 (AX K sz)) 6 (XP D dA (AX K sz) K u) 0 0 26 [(0, .ref x0), (1, .int x1), (2, .int x2), (3, .int x3), (4, .int x4), (5, .int x5)] [] := by
  intro n
  induction n with
  | zero =>
    intro x4 x5 u h
    exact h.elim
  | succ n ih =>
    intro x4 x5 u h
    have h : xw0_frequent_L26_S G7 Post K x0 x1 x2 x3 (xw0_frequent_L26 G7 Post K x0 x1 x2 x3 n) x4 x5 u := h
    unfold xw0_frequent_L26_S at h
    refine jj_iload hX dX0_frequent_26 5 rfl 28 rfl ?_
    refine jj_aload_n hX dX0_frequent_28 0 rfl 29 rfl ?_
    obtain ⟨k29, h⟩ := h
    refine xg0_10 hX hY k29 dX0_frequent_29 q421 32 rfl ?_
    obtain ⟨b32, g32, h⟩ := h
    refine jj_st (st2 := [.ref b32, .int x5]) (by rw [va_rf_some g32]) ?_
    obtain ⟨k32, h⟩ := h
    refine xgn4_2 hX hY k32 dX0_frequent_32 nq319 35 rfl ?_
    obtain ⟨b35, g35, h⟩ := h
    refine jj_st (st2 := [.ref b35, .int x5]) (by rw [va_rf_some g35]) ?_
    obtain ⟨k35, h⟩ := h
    refine xgn15_0 hX hY k35 dX0_frequent_35 nq1000 38 rfl ?_
    obtain ⟨b38, g38, h⟩ := h
    refine jj_st (st2 := [.ref b38, .int x5]) (by rw [va_rf_some g38]) ?_
    obtain ⟨n38, k38, h⟩ := h
    refine jx_alen hX hY.1 k38 dX0_frequent_38 39 rfl ?_
    refine jj_icmp_ge hX dX0_frequent_39 78 42 (by decide) rfl (fun c39 => ?_) (fun c39 => ?_)
    · have h := h.1 c39
      refine jj_iload hX dX0_frequent_78 4 rfl 80 rfl ?_
      refine jj_iload_n hX dX0_frequent_80 2 rfl 81 rfl ?_
      refine jj_icmp_gt hX dX0_frequent_81 87 84 (by decide) rfl (fun c81 => ?_) (fun c81 => ?_)
      · have h := h.1 c81
        refine jj_iload hX dX0_frequent_87 4 rfl 89 rfl ?_
        refine jj_istore_n (lv2 := [(0, .ref x0), (2, .int x4), (3, .int x3)]) hX dX0_frequent_89 (Nat.le_of_ble_eq_true rfl) [1, 0, 3] rfl 90 rfl ?_
        refine jj_iload_n hX dX0_frequent_90 2 rfl 91 rfl ?_
        refine jj_bipush hX dX0_frequent_91 cb_96 93 rfl ?_
        refine jj_isub hX dX0_frequent_93 94 rfl ?_
        refine jj_topi (fun v94 e94 => ?_)
        have h := h v94 e94
        refine jj_istore_n (lv2 := [(0, .ref x0), (1, .int v94), (2, .int x4), (3, .int x3)]) hX dX0_frequent_94 (Nat.le_of_ble_eq_true rfl) [1, 0, 2, 3] rfl 95 rfl ?_
        obtain ⟨v95, e95⟩ : ∃ y : Int32, y = x3 + (1 : Int32) := ⟨_, rfl⟩
        have h := h v95 e95
        refine jj_iinc (v := v95) (lv2 := [(0, .ref x0), (1, .int v94), (2, .int x4), (3, .int v95)]) hX dX0_frequent_95 3 rfl (by rw [e95, ci_1]) (Nat.le_of_ble_eq_true rfl) [1, 2, 3, 0] rfl 98 rfl ?_
        refine jj_goto hX dX0_frequent_98 7 (by decide) ?_
        exact hG7 _ _ _ _ h
      · have h := h.2 c81
        refine jj_goto hX dX0_frequent_84 95 (by decide) ?_
        obtain ⟨v95, e95⟩ : ∃ y : Int32, y = x3 + (1 : Int32) := ⟨_, rfl⟩
        have h := h v95 e95
        refine jj_iinc (v := v95) (lv2 := [(0, .ref x0), (1, .int x1), (2, .int x2), (3, .int v95), (4, .int x4), (5, .int x5)]) hX dX0_frequent_95 3 rfl (by rw [e95, ci_1]) (Nat.le_of_ble_eq_true rfl) [1, 2, 3, 0, 4, 5] rfl 98 rfl ?_
        refine jj_goto hX dX0_frequent_98 7 (by decide) ?_
        refine jj_sub (lv2 := [(0, .ref x0), (1, .int x1), (2, .int x2), (3, .int v95)]) [0, 1, 2, 3] rfl ?_
        exact hG7 _ _ _ _ h
    · have h := h.2 c39
      refine jj_iload hX dX0_frequent_42 4 rfl 44 rfl ?_
      refine jj_aload_n hX dX0_frequent_44 0 rfl 45 rfl ?_
      refine xg0_10 hX hY k29 dX0_frequent_45 q421 48 rfl ?_
      obtain ⟨b48, g48, h⟩ := h
      refine jj_st (st2 := [.ref b48, .int x4]) (by rw [va_rf_some g48]) ?_
      obtain ⟨k48, h⟩ := h
      refine xgn4_2 hX hY k48 dX0_frequent_48 nq319 51 rfl ?_
      obtain ⟨b51, g51, h⟩ := h
      refine jj_st (st2 := [.ref b51, .int x4]) (by rw [va_rf_some g51]) ?_
      obtain ⟨k51, h⟩ := h
      refine xgn15_0 hX hY k51 dX0_frequent_51 nq1000 54 rfl ?_
      refine jj_iload hX dX0_frequent_54 5 rfl 56 rfl ?_
      obtain ⟨b56, g56, h⟩ := h
      refine jj_st (st2 := [.int x5, .ref b56, .int x4]) (by rw [va_rf_some g56]) ?_
      obtain ⟨n56, k56, h⟩ := h
      obtain ⟨hi56, h⟩ := h
      refine jx_bald hX hY.1 k56 _ rfl hi56 dX0_frequent_56 57 rfl ?_
      refine kxs_small hX XP.keeps q1261 (Nat.le_of_ble_eq_true rfl) (Nat.le_of_ble_eq_true rfl) (Nat.zero_le _) (Nat.zero_le _) (Nat.le_of_ble_eq_true rfl) dX0_frequent_57 60 rfl h (fun r57 h => ?_)
      refine jj_iload_n hX dX0_frequent_60 3 rfl 61 rfl ?_
      refine jj_icmp_ne hX dX0_frequent_61 68 64 (by decide) rfl (fun c61 => ?_) (fun c61 => ?_)
      · have h := h.1 c61
        refine jj_iconst hX dX0_frequent_68 ci_0 69 rfl ?_
        refine jj_iadd hX dX0_frequent_69 70 rfl ?_
        refine jj_topi (fun v70 e70 => ?_)
        have h := h v70 e70
        refine jj_istore (lv2 := [(0, .ref x0), (1, .int x1), (2, .int x2), (3, .int x3), (4, .int v70), (5, .int x5)]) hX dX0_frequent_70 (Nat.le_of_ble_eq_true rfl) [1, 2, 3, 4, 0, 5] rfl 72 rfl ?_
        obtain ⟨v72, e72⟩ : ∃ y : Int32, y = x5 + (1 : Int32) := ⟨_, rfl⟩
        have h := h v72 e72
        refine jj_iinc (v := v72) (lv2 := [(0, .ref x0), (1, .int x1), (2, .int x2), (3, .int x3), (4, .int v70), (5, .int v72)]) hX dX0_frequent_72 5 rfl (by rw [e72, ci_1]) (Nat.le_of_ble_eq_true rfl) [1, 2, 3, 4, 5, 0] rfl 75 rfl ?_
        refine jj_goto hX dX0_frequent_75 26 (by decide) ?_
        exact ih _ _ _ h
      · have h := h.2 c61
        refine jj_iconst hX dX0_frequent_64 ci_1 65 rfl ?_
        refine jj_goto hX dX0_frequent_65 69 (by decide) ?_
        refine jj_iadd hX dX0_frequent_69 70 rfl ?_
        refine jj_topi (fun v70 e70 => ?_)
        have h := h v70 e70
        refine jj_istore (lv2 := [(0, .ref x0), (1, .int x1), (2, .int x2), (3, .int x3), (4, .int v70), (5, .int x5)]) hX dX0_frequent_70 (Nat.le_of_ble_eq_true rfl) [1, 2, 3, 4, 0, 5] rfl 72 rfl ?_
        obtain ⟨v72, e72⟩ : ∃ y : Int32, y = x5 + (1 : Int32) := ⟨_, rfl⟩
        have h := h v72 e72
        refine jj_iinc (v := v72) (lv2 := [(0, .ref x0), (1, .int x1), (2, .int x2), (3, .int x3), (4, .int v70), (5, .int v72)]) hX dX0_frequent_72 5 rfl (by rw [e72, ci_1]) (Nat.le_of_ble_eq_true rfl) [1, 2, 3, 4, 5, 0] rfl 75 rfl ?_
        refine jj_goto hX dX0_frequent_75 26 (by decide) ?_
        exact ih _ _ _ h
set_option maxHeartbeats 4000000 in
set_option maxRecDepth 100000 in
theorem txw0_frequent_L7 {X : JC} {D : va_G} {dA aK aV : Nat → Nat} {sz : Nat} {K : XK} {Post : Int32 → XS → Prop} {x0 : Nat} (hX : JX X yX0_frequent.cls cX0_frequent 6 (Option.some Jvm.ClassFile.FieldType.int) 2 40 0 0) (hY : JY X D dA aK aV (AX K sz)) : ∀ (n : Nat) (x1 : Int32) (x2 : Int32) (x3 : Int32) (u : XS), xw0_frequent_L7 Post K x0 n x1 x2 x3 u → JJ X (AX K sz) (jj_Q X (va_Qi (fun (r : Int32) (w : XS) => Post r w) (jx_B D dA K) (AX K sz)) 0 0 (AX K sz)) 6 (XP D dA (AX K sz) K u) 0 0 7 [(0, .ref x0), (1, .int x1), (2, .int x2), (3, .int x3)] [] := by
  intro n
  induction n with
  | zero =>
    intro x1 x2 x3 u h
    exact h.elim
  | succ n ih =>
    intro x1 x2 x3 u h
    have h : xw0_frequent_L7_S Post K x0 (xw0_frequent_L7 Post K x0 n) x1 x2 x3 u := h
    unfold xw0_frequent_L7_S at h
    refine jj_iload_n hX dX0_frequent_7 3 rfl 8 rfl ?_
    refine jj_bipush hX dX0_frequent_8 cb_122 10 rfl ?_
    refine jj_icmp_gt hX dX0_frequent_10 101 13 (by decide) rfl (fun c10 => ?_) (fun c10 => ?_)
    · have h := h.1 c10
      refine jj_aload_n hX dX0_frequent_101 0 rfl 102 rfl ?_
      refine jj_iload_n hX dX0_frequent_102 1 rfl 103 rfl ?_
      obtain ⟨k103, h⟩ := h
      refine kxw0_answer hX hY k103 q1077 (Nat.le_of_ble_eq_true rfl) (Nat.le_of_ble_eq_true rfl) (Nat.zero_le _) (Nat.zero_le _) (Nat.le_of_ble_eq_true rfl) dX0_frequent_103 106 rfl h (fun r103 u103 h => ?_)
      exact jj_reti (post := (fun (r : Int32) (w : XS) => Post r w)) (u := u103) hX dX0_frequent_106 (Nat.le_refl 0) (Nat.le_refl 0) jx_hB h
    · have h := h.2 c10
      refine jj_aload_n hX dX0_frequent_13 0 rfl 14 rfl ?_
      obtain ⟨k14, h⟩ := h
      refine kxw0_isSet hX hY k14 q1115 (Nat.le_of_ble_eq_true rfl) (Nat.le_of_ble_eq_true rfl) (Nat.zero_le _) (Nat.zero_le _) (Nat.le_of_ble_eq_true rfl) dX0_frequent_14 17 rfl h (fun r14 u14 hb14 h => ?_)
      refine jj_if_eq hX dX0_frequent_17 101 20 (by decide) rfl (fun c17 => ?_) (fun c17 => ?_)
      · have h := h.1 c17
        refine jj_aload_n hX dX0_frequent_101 0 rfl 102 rfl ?_
        refine jj_iload_n hX dX0_frequent_102 1 rfl 103 rfl ?_
        refine kxw0_answer hX hY k14 q1077 (Nat.le_of_ble_eq_true rfl) (Nat.le_of_ble_eq_true rfl) (Nat.zero_le _) (Nat.zero_le _) (Nat.le_of_ble_eq_true rfl) dX0_frequent_103 106 rfl h (fun r103 u103 h => ?_)
        exact jj_reti (post := (fun (r : Int32) (w : XS) => Post r w)) (u := u103) hX dX0_frequent_106 (Nat.le_refl 0) (Nat.le_refl 0) jx_hB h
      · have h := h.2 c17
        refine jj_iconst hX dX0_frequent_20 ci_0 21 rfl ?_
        refine jj_istore (lv2 := [(0, .ref x0), (1, .int x1), (2, .int x2), (3, .int x3), (4, .int (0 : Int32))]) hX dX0_frequent_21 (Nat.le_of_ble_eq_true rfl) [1, 2, 3, 4, 0] rfl 23 rfl ?_
        refine jj_iconst hX dX0_frequent_23 ci_0 24 rfl ?_
        refine jj_istore (lv2 := [(0, .ref x0), (1, .int x1), (2, .int x2), (3, .int x3), (4, .int (0 : Int32)), (5, .int (0 : Int32))]) hX dX0_frequent_24 (Nat.le_of_ble_eq_true rfl) [1, 2, 3, 4, 5, 0] rfl 26 rfl ?_
        obtain ⟨n9, h⟩ := h
        exact txw0_frequent_L26 hX hY ih n9 _ _ _ h
set_option maxHeartbeats 4000000 in
set_option maxRecDepth 100000 in
theorem mxw0_frequent (l : Launch) (hfl : l.stackTraces = false) (D : va_G) (dA aK aV : Nat → Nat) (x0 : Nat) (K : XK) (u : XS) (Post : Int32 → XS → Prop) (h : xw0_frequent x0 K u Post) (sz : Nat) : Met l yX0_frequent (ws_ yX0_frequent cX0_frequent 6 (Option.some Jvm.ClassFile.FieldType.int)) (jx_rm 2 40 0 0) (jx_Pc D dA aK aV K u sz [.ref x0]) (va_Qi (fun (r : Int32) (w : XS) => Post r w) (jx_B D dA K) (AX K sz)) 0 0 (AX K sz) := by
  refine jx_start hfl [.ref x0] [(0, .ref x0)] (by decide) (Nat.le_of_ble_eq_true rfl) rfl (fun X hX hY hin => ?_)
  unfold xw0_frequent at h
  refine jj_iconst hX dX0_frequent_0 ci_m1 1 rfl ?_
  refine jj_istore_n (lv2 := [(0, .ref x0), (1, .int (-1 : Int32))]) hX dX0_frequent_1 (Nat.le_of_ble_eq_true rfl) [1, 0] rfl 2 rfl ?_
  refine jj_iconst hX dX0_frequent_2 ci_0 3 rfl ?_
  refine jj_istore_n (lv2 := [(0, .ref x0), (1, .int (-1 : Int32)), (2, .int (0 : Int32))]) hX dX0_frequent_3 (Nat.le_of_ble_eq_true rfl) [1, 2, 0] rfl 4 rfl ?_
  refine jj_bipush hX dX0_frequent_4 cb_97 6 rfl ?_
  refine jj_istore_n (lv2 := [(0, .ref x0), (1, .int (-1 : Int32)), (2, .int (0 : Int32)), (3, .int (97 : Int32))]) hX dX0_frequent_6 (Nat.le_of_ble_eq_true rfl) [1, 2, 3, 0] rfl 7 rfl ?_
  obtain ⟨n9, h⟩ := h
  exact txw0_frequent_L7 hX hY n9 _ _ _ _ h
theorem hd_xw0_frequent : yX0_frequent.cls ≠ "java/lang/invoke/MethodHandle" ∧ yX0_frequent.cls ≠ "java/lang/invoke/VarHandle" ∧ (parseMethodDescriptor yX0_frequent.desc).map (fun d => d.parameters.length) = some 0 := by decide +kernel
theorem kxw0_frequent {X : JC} {A : Nat → Prop} {Q : State → Prop} {nL k n pc : Nat} {lv : List (Nat × Value)} {st : List Value} {own : String} {cc : ByteArray} {ret : Option FieldType} {F LL mc ms ix : Nat} {D : va_G} {dA aK aV : Nat → Nat} {K : XK} {u : XS} {x0 : Nat} {Post : Int32 → XS → Prop} (hX : JX X own cc nL ret F LL mc ms) (hY : JY X D dA aK aV A) (h1a : K x0 = (1, 0)) (hlk : (Cond.methodLink own ix yX0_frequent) ∈ lw_all) (hF : 2 + 1 ≤ F) (hL : 8 + (6 + 11) + 40 ≤ LL) (hk : k ≤ mc) (hk2 : n ≤ ms) (hw : (st.map fun v => v.category).sum ≤ 8) (d : decode cc pc = .ok (.invokevirtual ix, 3)) (q : Nat) (hq : pc + 3 = q) (h : xw0_frequent x0 K u  Post) (kk : ∀ (r : Int32) (u2 : XS), Post r u2 → JJ X A Q nL (XP D dA A K u2) k n q lv (.int r :: st)) : JJ X A Q nL (XP D dA A K u) k n pc lv (.ref x0 :: st) :=
  jx_callVi (na := 0) (As := []) hX hY jf0 h1a (fun sz => mxw0_frequent (jj_l X) hY.2.2.2.2 D dA aK aV x0 K u  Post h sz) hlk q1258 q1259 q120 q1260 ⟨rfl, hd_xw0_frequent⟩ rfl rfl hw hF hL hk hk2 d q hq kk
theorem knxw0_frequent {X : JC} {A : Nat → Prop} {Q : State → Prop} {nL k n pc : Nat} {lv : List (Nat × Value)} {st : List Value} {own : String} {cc : ByteArray} {ret : Option FieldType} {F LL mc ms ix : Nat} {D : va_G} {dA aK aV : Nat → Nat} {K : XK} {u : XS} {x0 : Nat} {host : String} {Post : Int32 → XS → Prop} (hX : JX X own cc nL ret F LL mc ms) (hY : JY X D dA aK aV A) (h1a : K x0 = (1, 0)) (hlk : (Cond.methodLinkNest own ix yX0_frequent host) ∈ jx_nest) (hF : 2 + 1 ≤ F) (hL : 8 + (6 + 11) + 40 ≤ LL) (hk : k ≤ mc) (hk2 : n ≤ ms) (hw : (st.map fun v => v.category).sum ≤ 8) (d : decode cc pc = .ok (.invokevirtual ix, 3)) (q : Nat) (hq : pc + 3 = q) (h : xw0_frequent x0 K u  Post) (kk : ∀ (r : Int32) (u2 : XS), Post r u2 → JJ X A Q nL (XP D dA A K u2) k n q lv (.int r :: st)) : JJ X A Q nL (XP D dA A K u) k n pc lv (.ref x0 :: st) :=
  jx_callNi (na := 0) (As := []) hX hY jf0 h1a (fun sz => mxw0_frequent (jj_l X) hY.2.2.2.2 D dA aK aV x0 K u  Post h sz) hlk q1258 q1259 q120 q1260 hd_xw0_frequent rfl rfl hw hF hL hk hk2 d q hq kk
def xw0_pieceOf_L4_S (Post : Int32 → XS → Prop) (K : XK) (x0 : Nat) (x1 : Int32) (R : Int32 → Int32 → XS → Prop) (x2 : Int32) (x3 : Int32) (u : XS) : Prop :=
  K x0 = (1, 0) ∧
  xw0_isSet x0 K u (fun r5 u5 =>
    (r5 = 0 →
      xw0_answer x0 x2 K u5 (fun r85 u85 =>
        Post r85 u85)) ∧
    (¬ r5 = 0 →
      ∃ b16, (xr u5 x0 10) = some b16 ∧
      K b16 = (1, 4) ∧
      ∃ b19, (xr u5 b16 2) = some b19 ∧
      K b19 = (1, 15) ∧
      ∃ b22, (xr u5 b19 2) = some b22 ∧
      ∃ n22, K b22 = (2, n22) ∧
      ((nI n22) ≤ x3 →
        xw0_answer x0 x2 K u5 (fun r85 u85 =>
          Post r85 u85)) ∧
      (¬ (nI n22) ≤ x3 →
        ∃ b32, (xr u5 x0 10) = some b32 ∧
        K b32 = (1, 4) ∧
        ∃ b35, (xr u5 b32 2) = some b35 ∧
        K b35 = (1, 15) ∧
        ∃ b39, (xr u5 b35 2) = some b39 ∧
        ∃ n39, K b39 = (2, n39) ∧
        vp_in x3 n39 ∧
        ∃ b45, (xr u5 x0 10) = some b45 ∧
        K b45 = (1, 4) ∧
        ∃ b48, (xr u5 b45 2) = some b48 ∧
        K b48 = (1, 15) ∧
        ∃ b52, (xr u5 b48 2) = some b52 ∧
        ∃ n52, K b52 = (2, n52) ∧
        vp_in x3 n52 ∧
        ∃ b57, (xr u5 x0 10) = some b57 ∧
        K b57 = (1, 4) ∧
        ∃ b60, (xr u5 b57 2) = some b60 ∧
        K b60 = (1, 15) ∧
        ∃ b64, (xr u5 b60 3) = some b64 ∧
        ∃ n64, K b64 = (2, n64) ∧
        vp_in x3 n64 ∧
        xs_isIn x1.toInt64 (xi u5 b39 x3.toNatClampNeg).toInt64 (((xi u5 b52 x3.toNatClampNeg) + (xi u5 b64 x3.toNatClampNeg)) - (1 : Int32)).toInt64 (fun r69 =>
          (r69 = 0 →
            ∀ v77 : Int32, v77 = x3 + (1 : Int32) →
            R x2 v77 u5) ∧
          (¬ r69 = 0 →
            ∀ v77 : Int32, v77 = x3 + (1 : Int32) →
            R x3 v77 u5)))))
def xw0_pieceOf_L4 (Post : Int32 → XS → Prop) (K : XK) (x0 : Nat) (x1 : Int32) : Nat → Int32 → Int32 → XS → Prop
  | 0 => fun _ _ _ => False
  | n + 1 => fun x2 x3 u => xw0_pieceOf_L4_S Post K x0 x1 (xw0_pieceOf_L4 Post K x0 x1 n) x2 x3 u
/-- RaisedPress.pieceOf(I)I -/
def xw0_pieceOf (x0 : Nat) (x1 : Int32) (K : XK) (u : XS) (Post : Int32 → XS → Prop) : Prop :=
  ∃ n, xw0_pieceOf_L4 Post K x0 x1 n (-1 : Int32) (0 : Int32) u
set_option maxHeartbeats 4000000 in
set_option maxRecDepth 100000 in
theorem txw0_pieceOf_L4 {X : JC} {D : va_G} {dA aK aV : Nat → Nat} {sz : Nat} {K : XK} {Post : Int32 → XS → Prop} {x0 : Nat} {x1 : Int32} (hX : JX X yX0_pieceOf.cls cX0_pieceOf 4 (Option.some Jvm.ClassFile.FieldType.int) 1 25 0 0) (hY : JY X D dA aK aV (AX K sz)) : ∀ (n : Nat) (x2 : Int32) (x3 : Int32) (u : XS), xw0_pieceOf_L4 Post K x0 x1 n x2 x3 u → JJ X (AX K sz) (jj_Q X (va_Qi (fun (r : Int32) (w : XS) => Post r w) (jx_B D dA K) (AX K sz)) 0 0 (AX K sz)) 4 (XP D dA (AX K sz) K u) 0 0 4 [(0, .ref x0), (1, .int x1), (2, .int x2), (3, .int x3)] [] := by
  intro n
  induction n with
  | zero =>
    intro x2 x3 u h
    exact h.elim
  | succ n ih =>
    intro x2 x3 u h
    have h : xw0_pieceOf_L4_S Post K x0 x1 (xw0_pieceOf_L4 Post K x0 x1 n) x2 x3 u := h
    unfold xw0_pieceOf_L4_S at h
    refine jj_aload_n hX dX0_pieceOf_4 0 rfl 5 rfl ?_
    obtain ⟨k5, h⟩ := h
    refine kxw0_isSet hX hY k5 q1115 (Nat.le_of_ble_eq_true rfl) (Nat.le_of_ble_eq_true rfl) (Nat.zero_le _) (Nat.zero_le _) (Nat.le_of_ble_eq_true rfl) dX0_pieceOf_5 8 rfl h (fun r5 u5 hb5 h => ?_)
    refine jj_if_eq hX dX0_pieceOf_8 83 11 (by decide) rfl (fun c8 => ?_) (fun c8 => ?_)
    · have h := h.1 c8
      refine jj_aload_n hX dX0_pieceOf_83 0 rfl 84 rfl ?_
      refine jj_iload_n hX dX0_pieceOf_84 2 rfl 85 rfl ?_
      refine kxw0_answer hX hY k5 q1077 (Nat.le_of_ble_eq_true rfl) (Nat.le_of_ble_eq_true rfl) (Nat.zero_le _) (Nat.zero_le _) (Nat.le_of_ble_eq_true rfl) dX0_pieceOf_85 88 rfl h (fun r85 u85 h => ?_)
      exact jj_reti (post := (fun (r : Int32) (w : XS) => Post r w)) (u := u85) hX dX0_pieceOf_88 (Nat.le_refl 0) (Nat.le_refl 0) jx_hB h
    · have h := h.2 c8
      refine jj_iload_n hX dX0_pieceOf_11 3 rfl 12 rfl ?_
      refine jj_aload_n hX dX0_pieceOf_12 0 rfl 13 rfl ?_
      refine xg0_10 hX hY k5 dX0_pieceOf_13 q421 16 rfl ?_
      obtain ⟨b16, g16, h⟩ := h
      refine jj_st (st2 := [.ref b16, .int x3]) (by rw [va_rf_some g16]) ?_
      obtain ⟨k16, h⟩ := h
      refine xgn4_2 hX hY k16 dX0_pieceOf_16 nq319 19 rfl ?_
      obtain ⟨b19, g19, h⟩ := h
      refine jj_st (st2 := [.ref b19, .int x3]) (by rw [va_rf_some g19]) ?_
      obtain ⟨k19, h⟩ := h
      refine xgn15_2 hX hY k19 dX0_pieceOf_19 nq1006 22 rfl ?_
      obtain ⟨b22, g22, h⟩ := h
      refine jj_st (st2 := [.ref b22, .int x3]) (by rw [va_rf_some g22]) ?_
      obtain ⟨n22, k22, h⟩ := h
      refine jx_alen hX hY.1 k22 dX0_pieceOf_22 23 rfl ?_
      refine jj_icmp_ge hX dX0_pieceOf_23 83 26 (by decide) rfl (fun c23 => ?_) (fun c23 => ?_)
      · have h := h.1 c23
        refine jj_aload_n hX dX0_pieceOf_83 0 rfl 84 rfl ?_
        refine jj_iload_n hX dX0_pieceOf_84 2 rfl 85 rfl ?_
        refine kxw0_answer hX hY k5 q1077 (Nat.le_of_ble_eq_true rfl) (Nat.le_of_ble_eq_true rfl) (Nat.zero_le _) (Nat.zero_le _) (Nat.le_of_ble_eq_true rfl) dX0_pieceOf_85 88 rfl h (fun r85 u85 h => ?_)
        exact jj_reti (post := (fun (r : Int32) (w : XS) => Post r w)) (u := u85) hX dX0_pieceOf_88 (Nat.le_refl 0) (Nat.le_refl 0) jx_hB h
      · have h := h.2 c23
        refine jj_iload_n hX dX0_pieceOf_26 1 rfl 27 rfl ?_
        refine jj_i2l hX dX0_pieceOf_27 28 rfl ?_
        refine jj_aload_n hX dX0_pieceOf_28 0 rfl 29 rfl ?_
        refine xg0_10 hX hY k5 dX0_pieceOf_29 q421 32 rfl ?_
        obtain ⟨b32, g32, h⟩ := h
        refine jj_st (st2 := [.ref b32, .long x1.toInt64]) (by rw [va_rf_some g32]) ?_
        obtain ⟨k32, h⟩ := h
        refine xgn4_2 hX hY k32 dX0_pieceOf_32 nq319 35 rfl ?_
        obtain ⟨b35, g35, h⟩ := h
        refine jj_st (st2 := [.ref b35, .long x1.toInt64]) (by rw [va_rf_some g35]) ?_
        obtain ⟨k35, h⟩ := h
        refine xgn15_2 hX hY k35 dX0_pieceOf_35 nq1006 38 rfl ?_
        refine jj_iload_n hX dX0_pieceOf_38 3 rfl 39 rfl ?_
        obtain ⟨b39, g39, h⟩ := h
        refine jj_st (st2 := [.int x3, .ref b39, .long x1.toInt64]) (by rw [va_rf_some g39]) ?_
        obtain ⟨n39, k39, h⟩ := h
        obtain ⟨hi39, h⟩ := h
        refine jx_iald hX hY.1 k39 _ rfl hi39 dX0_pieceOf_39 40 rfl ?_
        refine jj_i2l hX dX0_pieceOf_40 41 rfl ?_
        refine jj_aload_n hX dX0_pieceOf_41 0 rfl 42 rfl ?_
        refine xg0_10 hX hY k5 dX0_pieceOf_42 q421 45 rfl ?_
        obtain ⟨b45, g45, h⟩ := h
        refine jj_st (st2 := [.ref b45, .long (xi u5 b39 x3.toNatClampNeg).toInt64, .long x1.toInt64]) (by rw [va_rf_some g45]) ?_
        obtain ⟨k45, h⟩ := h
        refine xgn4_2 hX hY k45 dX0_pieceOf_45 nq319 48 rfl ?_
        obtain ⟨b48, g48, h⟩ := h
        refine jj_st (st2 := [.ref b48, .long (xi u5 b39 x3.toNatClampNeg).toInt64, .long x1.toInt64]) (by rw [va_rf_some g48]) ?_
        obtain ⟨k48, h⟩ := h
        refine xgn15_2 hX hY k48 dX0_pieceOf_48 nq1006 51 rfl ?_
        refine jj_iload_n hX dX0_pieceOf_51 3 rfl 52 rfl ?_
        obtain ⟨b52, g52, h⟩ := h
        refine jj_st (st2 := [.int x3, .ref b52, .long (xi u5 b39 x3.toNatClampNeg).toInt64, .long x1.toInt64]) (by rw [va_rf_some g52]) ?_
        obtain ⟨n52, k52, h⟩ := h
        obtain ⟨hi52, h⟩ := h
        refine jx_iald hX hY.1 k52 _ rfl hi52 dX0_pieceOf_52 53 rfl ?_
        refine jj_aload_n hX dX0_pieceOf_53 0 rfl 54 rfl ?_
        refine xg0_10 hX hY k5 dX0_pieceOf_54 q421 57 rfl ?_
        obtain ⟨b57, g57, h⟩ := h
        refine jj_st (st2 := [.ref b57, .int (xi u5 b52 x3.toNatClampNeg), .long (xi u5 b39 x3.toNatClampNeg).toInt64, .long x1.toInt64]) (by rw [va_rf_some g57]) ?_
        obtain ⟨k57, h⟩ := h
        refine xgn4_2 hX hY k57 dX0_pieceOf_57 nq319 60 rfl ?_
        obtain ⟨b60, g60, h⟩ := h
        refine jj_st (st2 := [.ref b60, .int (xi u5 b52 x3.toNatClampNeg), .long (xi u5 b39 x3.toNatClampNeg).toInt64, .long x1.toInt64]) (by rw [va_rf_some g60]) ?_
        obtain ⟨k60, h⟩ := h
        refine xgn15_3 hX hY k60 dX0_pieceOf_60 nq1009 63 rfl ?_
        refine jj_iload_n hX dX0_pieceOf_63 3 rfl 64 rfl ?_
        obtain ⟨b64, g64, h⟩ := h
        refine jj_st (st2 := [.int x3, .ref b64, .int (xi u5 b52 x3.toNatClampNeg), .long (xi u5 b39 x3.toNatClampNeg).toInt64, .long x1.toInt64]) (by rw [va_rf_some g64]) ?_
        obtain ⟨n64, k64, h⟩ := h
        obtain ⟨hi64, h⟩ := h
        refine jx_iald hX hY.1 k64 _ rfl hi64 dX0_pieceOf_64 65 rfl ?_
        refine jj_iadd hX dX0_pieceOf_65 66 rfl ?_
        refine jj_iconst hX dX0_pieceOf_66 ci_1 67 rfl ?_
        refine jj_isub hX dX0_pieceOf_67 68 rfl ?_
        refine jj_i2l hX dX0_pieceOf_68 69 rfl ?_
        refine kxs_isIn hX XP.keeps q1074 (Nat.le_of_ble_eq_true rfl) (Nat.le_of_ble_eq_true rfl) (Nat.zero_le _) (Nat.zero_le _) (Nat.le_of_ble_eq_true rfl) dX0_pieceOf_69 72 rfl h (fun r69 hb69 h => ?_)
        refine jj_if_eq hX dX0_pieceOf_72 77 75 (by decide) rfl (fun c72 => ?_) (fun c72 => ?_)
        · have h := h.1 c72
          obtain ⟨v77, e77⟩ : ∃ y : Int32, y = x3 + (1 : Int32) := ⟨_, rfl⟩
          have h := h v77 e77
          refine jj_iinc (v := v77) (lv2 := [(0, .ref x0), (1, .int x1), (2, .int x2), (3, .int v77)]) hX dX0_pieceOf_77 3 rfl (by rw [e77, ci_1]) (Nat.le_of_ble_eq_true rfl) [1, 2, 3, 0] rfl 80 rfl ?_
          refine jj_goto hX dX0_pieceOf_80 4 (by decide) ?_
          exact ih _ _ _ h
        · have h := h.2 c72
          refine jj_iload_n hX dX0_pieceOf_75 3 rfl 76 rfl ?_
          refine jj_istore_n (lv2 := [(0, .ref x0), (1, .int x1), (2, .int x3), (3, .int x3)]) hX dX0_pieceOf_76 (Nat.le_of_ble_eq_true rfl) [1, 2, 0, 3] rfl 77 rfl ?_
          obtain ⟨v77, e77⟩ : ∃ y : Int32, y = x3 + (1 : Int32) := ⟨_, rfl⟩
          have h := h v77 e77
          refine jj_iinc (v := v77) (lv2 := [(0, .ref x0), (1, .int x1), (2, .int x3), (3, .int v77)]) hX dX0_pieceOf_77 3 rfl (by rw [e77, ci_1]) (Nat.le_of_ble_eq_true rfl) [1, 2, 3, 0] rfl 80 rfl ?_
          refine jj_goto hX dX0_pieceOf_80 4 (by decide) ?_
          exact ih _ _ _ h
set_option maxHeartbeats 4000000 in
set_option maxRecDepth 100000 in
theorem mxw0_pieceOf (l : Launch) (hfl : l.stackTraces = false) (D : va_G) (dA aK aV : Nat → Nat) (x0 : Nat) (x1 : Int32) (K : XK) (u : XS) (Post : Int32 → XS → Prop) (h : xw0_pieceOf x0 x1 K u Post) (sz : Nat) : Met l yX0_pieceOf (ws_ yX0_pieceOf cX0_pieceOf 4 (Option.some Jvm.ClassFile.FieldType.int)) (jx_rm 1 25 0 0) (jx_Pc D dA aK aV K u sz [.ref x0, .int x1]) (va_Qi (fun (r : Int32) (w : XS) => Post r w) (jx_B D dA K) (AX K sz)) 0 0 (AX K sz) := by
  refine jx_start hfl [.ref x0, .int x1] [(0, .ref x0), (1, .int x1)] (by decide) (Nat.le_of_ble_eq_true rfl) rfl (fun X hX hY hin => ?_)
  unfold xw0_pieceOf at h
  refine jj_iconst hX dX0_pieceOf_0 ci_m1 1 rfl ?_
  refine jj_istore_n (lv2 := [(0, .ref x0), (1, .int x1), (2, .int (-1 : Int32))]) hX dX0_pieceOf_1 (Nat.le_of_ble_eq_true rfl) [1, 2, 0] rfl 2 rfl ?_
  refine jj_iconst hX dX0_pieceOf_2 ci_0 3 rfl ?_
  refine jj_istore_n (lv2 := [(0, .ref x0), (1, .int x1), (2, .int (-1 : Int32)), (3, .int (0 : Int32))]) hX dX0_pieceOf_3 (Nat.le_of_ble_eq_true rfl) [1, 2, 3, 0] rfl 4 rfl ?_
  obtain ⟨n9, h⟩ := h
  exact txw0_pieceOf_L4 hX hY n9 _ _ _ h
theorem hd_xw0_pieceOf : yX0_pieceOf.cls ≠ "java/lang/invoke/MethodHandle" ∧ yX0_pieceOf.cls ≠ "java/lang/invoke/VarHandle" ∧ (parseMethodDescriptor yX0_pieceOf.desc).map (fun d => d.parameters.length) = some 1 := by decide +kernel
theorem kxw0_pieceOf {X : JC} {A : Nat → Prop} {Q : State → Prop} {nL k n pc : Nat} {lv : List (Nat × Value)} {st : List Value} {own : String} {cc : ByteArray} {ret : Option FieldType} {F LL mc ms ix : Nat} {D : va_G} {dA aK aV : Nat → Nat} {K : XK} {u : XS} {x0 : Nat} {x1 : Int32} {Post : Int32 → XS → Prop} (hX : JX X own cc nL ret F LL mc ms) (hY : JY X D dA aK aV A) (h1a : K x0 = (1, 0)) (hlk : (Cond.methodLink own ix yX0_pieceOf) ∈ lw_all) (hF : 1 + 1 ≤ F) (hL : 8 + (4 + 11) + 25 ≤ LL) (hk : k ≤ mc) (hk2 : n ≤ ms) (hw : (st.map fun v => v.category).sum ≤ 8) (d : decode cc pc = .ok (.invokevirtual ix, 3)) (q : Nat) (hq : pc + 3 = q) (h : xw0_pieceOf x0 x1 K u  Post) (kk : ∀ (r : Int32) (u2 : XS), Post r u2 → JJ X A Q nL (XP D dA A K u2) k n q lv (.int r :: st)) : JJ X A Q nL (XP D dA A K u) k n pc lv (.int x1 :: .ref x0 :: st) :=
  jx_callVi (na := 1) (As := [.int x1]) hX hY jf0 h1a (fun sz => mxw0_pieceOf (jj_l X) hY.2.2.2.2 D dA aK aV x0 x1 K u  Post h sz) hlk q1263 q1264 q120 q1265 ⟨rfl, hd_xw0_pieceOf⟩ rfl rfl hw hF hL hk hk2 d q hq kk
theorem knxw0_pieceOf {X : JC} {A : Nat → Prop} {Q : State → Prop} {nL k n pc : Nat} {lv : List (Nat × Value)} {st : List Value} {own : String} {cc : ByteArray} {ret : Option FieldType} {F LL mc ms ix : Nat} {D : va_G} {dA aK aV : Nat → Nat} {K : XK} {u : XS} {x0 : Nat} {x1 : Int32} {host : String} {Post : Int32 → XS → Prop} (hX : JX X own cc nL ret F LL mc ms) (hY : JY X D dA aK aV A) (h1a : K x0 = (1, 0)) (hlk : (Cond.methodLinkNest own ix yX0_pieceOf host) ∈ jx_nest) (hF : 1 + 1 ≤ F) (hL : 8 + (4 + 11) + 25 ≤ LL) (hk : k ≤ mc) (hk2 : n ≤ ms) (hw : (st.map fun v => v.category).sum ≤ 8) (d : decode cc pc = .ok (.invokevirtual ix, 3)) (q : Nat) (hq : pc + 3 = q) (h : xw0_pieceOf x0 x1 K u  Post) (kk : ∀ (r : Int32) (u2 : XS), Post r u2 → JJ X A Q nL (XP D dA A K u2) k n q lv (.int r :: st)) : JJ X A Q nL (XP D dA A K u) k n pc lv (.int x1 :: .ref x0 :: st) :=
  jx_callNi (na := 1) (As := [.int x1]) hX hY jf0 h1a (fun sz => mxw0_pieceOf (jj_l X) hY.2.2.2.2 D dA aK aV x0 x1 K u  Post h sz) hlk q1263 q1264 q120 q1265 hd_xw0_pieceOf rfl rfl hw hF hL hk hk2 d q hq kk
def xw0_signs_B109 (G47 : Int32 → Int32 → XS → Prop) (Post : Int32 → XS → Prop) (K : XK) (x1 : Int32) (x2 : Nat) (x4 : Int32) (s0 : Int32) (s1 : Int32) (u : XS) : Prop :=
  ∀ v110 : Int32, v110 = (s1 + s0) →
  ∀ v111 : Int32, v111 = x4 + (1 : Int32) →
  G47 v110 v111 u
def xw0_signs_L47_S (Post : Int32 → XS → Prop) (K : XK) (x1 : Int32) (x2 : Nat) (R : Int32 → Int32 → XS → Prop) (x3 : Int32) (x4 : Int32) (u : XS) : Prop :=
  ∃ n50, K x2 = (3, n50) ∧
  ((nI n50) ≤ x4 →
    Post x3 u) ∧
  (¬ (nI n50) ≤ x4 →
    (¬ x1 = 0 →
      vp_in x4 n50 ∧
      xs_isFigure (xi u x2 x4.toNatClampNeg) (fun r81 =>
        (r81 = 0 →
          xw0_signs_B109 R Post K x1 x2 x4 (0 : Int32) x3 u) ∧
        (¬ r81 = 0 →
          (x4 = 0 →
            xw0_signs_B109 R Post K x1 x2 x4 (1 : Int32) x3 u) ∧
          (¬ x4 = 0 →
            vp_in (x4 - (1 : Int32)) n50 ∧
            xs_isFigure (xi u x2 (x4 - (1 : Int32)).toNatClampNeg) (fun r98 =>
              (¬ r98 = 0 →
                xw0_signs_B109 R Post K x1 x2 x4 (0 : Int32) x3 u) ∧
              (r98 = 0 →
                xw0_signs_B109 R Post K x1 x2 x4 (1 : Int32) x3 u)))))) ∧
    (x1 = 0 →
      vp_in x4 n50 ∧
      xs_isGreat (xi u x2 x4.toNatClampNeg) (fun r63 =>
        (r63 = 0 →
          xw0_signs_B109 R Post K x1 x2 x4 (0 : Int32) x3 u) ∧
        (¬ r63 = 0 →
          xw0_signs_B109 R Post K x1 x2 x4 (1 : Int32) x3 u))))
def xw0_signs_L47 (Post : Int32 → XS → Prop) (K : XK) (x1 : Int32) (x2 : Nat) : Nat → Int32 → Int32 → XS → Prop
  | 0 => fun _ _ _ => False
  | n + 1 => fun x3 x4 u => xw0_signs_L47_S Post K x1 x2 (xw0_signs_L47 Post K x1 x2 n) x3 x4 u
def xw0_signs_B19 (Post : Int32 → XS → Prop) (K : XK) (x0 : Nat) (x1 : Int32) (s0 : Int32) (s1 : Nat) (u : XS) : Prop :=
  K s1 = (1, 0) ∧
  ∀ u19 : XS, u19 = xsi u s1 7 s0 →
  K x0 = (1, 0) ∧
  ((xi u19 x0 7) ≤ 0 →
    ∃ b35, (xr u19 x0 10) = some b35 ∧
    K b35 = (1, 4) ∧
    ∃ b38, (xr u19 b35 2) = some b38 ∧
    K b38 = (1, 15) ∧
    ∃ b41, (xr u19 b38 0) = some b41 ∧
    ∃ n, xw0_signs_L47 Post K x1 b41 n (0 : Int32) (0 : Int32) u19) ∧
  (¬ (xi u19 x0 7) ≤ 0 →
    Post (-1 : Int32) u19)
/-- RaisedPress.signs(I)I -/
def xw0_signs (x0 : Nat) (x1 : Int32) (K : XK) (u : XS) (Post : Int32 → XS → Prop) : Prop :=
  xs_isIn x1.toInt64 (0 : Int64) (1 : Int64) (fun r5 =>
    (¬ r5 = 0 →
      K x0 = (1, 0) ∧
      xw0_whyNotSet x0 K u (fun r16 u16 =>
        xw0_signs_B19 Post K x0 x1 r16 x0 u16)) ∧
    (r5 = 0 →
      xw0_signs_B19 Post K x0 x1 (1 : Int32) x0 u))
set_option maxHeartbeats 4000000 in
set_option maxRecDepth 100000 in
theorem txw0_signs_B109 {X : JC} {D : va_G} {dA aK aV : Nat → Nat} {sz : Nat} {K : XK} {G47 : Int32 → Int32 → XS → Prop} {Post : Int32 → XS → Prop} {x1 : Int32} {x2 : Nat} {x4 : Int32} {s0 : Int32} {s1 : Int32} {u : XS} (hX : JX X yX0_signs.cls cX0_signs 5 (Option.some Jvm.ClassFile.FieldType.int) 2 40 0 0) (hY : JY X D dA aK aV (AX K sz)) (hG47 : ∀ (y3 : Int32) (y4 : Int32) (u : XS), G47 y3 y4 u → JJ X (AX K sz) (jj_Q X (va_Qi (fun (r : Int32) (w : XS) => Post r w) (jx_B D dA K) (AX K sz)) 0 0 (AX K sz)) 5 (XP D dA (AX K sz) K u) 0 0 47 [(1, .int x1), (2, .ref x2), (3, .int y3), (4, .int y4)] []) (h : xw0_signs_B109 G47 Post K x1 x2 x4 s0 s1 u) : JJ X (AX K sz) (jj_Q X (va_Qi (fun (r : Int32) (w : XS) => Post r w) (jx_B D dA K) (AX K sz)) 0 0 (AX K sz)) 5 (XP D dA (AX K sz) K u) 0 0 109 [(1, .int x1), (2, .ref x2), (4, .int x4)] [.int s0, .int s1] := by
  unfold xw0_signs_B109 at h
  refine jj_iadd hX dX0_signs_109 110 rfl ?_
  refine jj_topi (fun v110 e110 => ?_)
  have h := h v110 e110
  refine jj_istore_n (lv2 := [(1, .int x1), (2, .ref x2), (3, .int v110), (4, .int x4)]) hX dX0_signs_110 (Nat.le_of_ble_eq_true rfl) [1, 2, 0, 3] rfl 111 rfl ?_
  obtain ⟨v111, e111⟩ : ∃ y : Int32, y = x4 + (1 : Int32) := ⟨_, rfl⟩
  have h := h v111 e111
  refine jj_iinc (v := v111) (lv2 := [(1, .int x1), (2, .ref x2), (3, .int v110), (4, .int v111)]) hX dX0_signs_111 3 rfl (by rw [e111, ci_1]) (Nat.le_of_ble_eq_true rfl) [1, 2, 3, 0] rfl 114 rfl ?_
  refine jj_goto hX dX0_signs_114 47 (by decide) ?_
  exact hG47 _ _ _ h
set_option maxHeartbeats 4000000 in
set_option maxRecDepth 100000 in
theorem txw0_signs_L47 {X : JC} {D : va_G} {dA aK aV : Nat → Nat} {sz : Nat} {K : XK} {Post : Int32 → XS → Prop} {x1 : Int32} {x2 : Nat} (hX : JX X yX0_signs.cls cX0_signs 5 (Option.some Jvm.ClassFile.FieldType.int) 2 40 0 0) (hY : JY X D dA aK aV (AX K sz)) : ∀ (n : Nat) (x3 : Int32) (x4 : Int32) (u : XS), xw0_signs_L47 Post K x1 x2 n x3 x4 u → JJ X (AX K sz) (jj_Q X (va_Qi (fun (r : Int32) (w : XS) => Post r w) (jx_B D dA K) (AX K sz)) 0 0 (AX K sz)) 5 (XP D dA (AX K sz) K u) 0 0 47 [(1, .int x1), (2, .ref x2), (3, .int x3), (4, .int x4)] [] := by
  intro n
  induction n with
  | zero =>
    intro x3 x4 u h
    exact h.elim
  | succ n ih =>
    intro x3 x4 u h
    have h : xw0_signs_L47_S Post K x1 x2 (xw0_signs_L47 Post K x1 x2 n) x3 x4 u := h
    unfold xw0_signs_L47_S at h
    refine jj_iload hX dX0_signs_47 3 rfl 49 rfl ?_
    refine jj_aload_n hX dX0_signs_49 1 rfl 50 rfl ?_
    obtain ⟨n50, k50, h⟩ := h
    refine jx_alen hX hY.1 k50 dX0_signs_50 51 rfl ?_
    refine jj_icmp_ge hX dX0_signs_51 117 54 (by decide) rfl (fun c51 => ?_) (fun c51 => ?_)
    · have h := h.1 c51
      refine jj_iload_n hX dX0_signs_117 2 rfl 118 rfl ?_
      exact jj_reti (post := (fun (r : Int32) (w : XS) => Post r w)) (u := u) hX dX0_signs_118 (Nat.le_refl 0) (Nat.le_refl 0) jx_hB h
    · have h := h.2 c51
      refine jj_iload_n hX dX0_signs_54 2 rfl 55 rfl ?_
      refine jj_iload_n hX dX0_signs_55 0 rfl 56 rfl ?_
      refine jj_if_ne hX dX0_signs_56 77 59 (by decide) rfl (fun c56 => ?_) (fun c56 => ?_)
      · have h := h.1 c56
        refine jj_aload_n hX dX0_signs_77 1 rfl 78 rfl ?_
        refine jj_iload hX dX0_signs_78 3 rfl 80 rfl ?_
        obtain ⟨hi80, h⟩ := h
        refine jx_bald hX hY.1 k50 _ rfl hi80 dX0_signs_80 81 rfl ?_
        refine kxs_isFigure hX XP.keeps q1270 (Nat.le_of_ble_eq_true rfl) (Nat.le_of_ble_eq_true rfl) (Nat.zero_le _) (Nat.zero_le _) (Nat.le_of_ble_eq_true rfl) dX0_signs_81 84 rfl h (fun r81 hb81 h => ?_)
        refine jj_if_eq hX dX0_signs_84 108 87 (by decide) rfl (fun c84 => ?_) (fun c84 => ?_)
        · have h := h.1 c84
          refine jj_iconst hX dX0_signs_108 ci_0 109 rfl ?_
          refine jj_sub (lv2 := [(1, .int x1), (2, .ref x2), (4, .int x4)]) [0, 1, 3] rfl ?_
          exact txw0_signs_B109 hX hY ih h
        · have h := h.2 c84
          refine jj_iload hX dX0_signs_87 3 rfl 89 rfl ?_
          refine jj_if_eq hX dX0_signs_89 104 92 (by decide) rfl (fun c89 => ?_) (fun c89 => ?_)
          · have h := h.1 c89
            refine jj_iconst hX dX0_signs_104 ci_1 105 rfl ?_
            refine jj_goto hX dX0_signs_105 109 (by decide) ?_
            refine jj_sub (lv2 := [(1, .int x1), (2, .ref x2), (4, .int x4)]) [0, 1, 3] rfl ?_
            exact txw0_signs_B109 hX hY ih h
          · have h := h.2 c89
            refine jj_aload_n hX dX0_signs_92 1 rfl 93 rfl ?_
            refine jj_iload hX dX0_signs_93 3 rfl 95 rfl ?_
            refine jj_iconst hX dX0_signs_95 ci_1 96 rfl ?_
            refine jj_isub hX dX0_signs_96 97 rfl ?_
            obtain ⟨hi97, h⟩ := h
            refine jx_bald hX hY.1 k50 _ rfl hi97 dX0_signs_97 98 rfl ?_
            refine kxs_isFigure hX XP.keeps q1270 (Nat.le_of_ble_eq_true rfl) (Nat.le_of_ble_eq_true rfl) (Nat.zero_le _) (Nat.zero_le _) (Nat.le_of_ble_eq_true rfl) dX0_signs_98 101 rfl h (fun r98 hb98 h => ?_)
            refine jj_if_ne hX dX0_signs_101 108 104 (by decide) rfl (fun c101 => ?_) (fun c101 => ?_)
            · have h := h.1 c101
              refine jj_iconst hX dX0_signs_108 ci_0 109 rfl ?_
              refine jj_sub (lv2 := [(1, .int x1), (2, .ref x2), (4, .int x4)]) [0, 1, 3] rfl ?_
              exact txw0_signs_B109 hX hY ih h
            · have h := h.2 c101
              refine jj_iconst hX dX0_signs_104 ci_1 105 rfl ?_
              refine jj_goto hX dX0_signs_105 109 (by decide) ?_
              refine jj_sub (lv2 := [(1, .int x1), (2, .ref x2), (4, .int x4)]) [0, 1, 3] rfl ?_
              exact txw0_signs_B109 hX hY ih h
      · have h := h.2 c56
        refine jj_aload_n hX dX0_signs_59 1 rfl 60 rfl ?_
        refine jj_iload hX dX0_signs_60 3 rfl 62 rfl ?_
        obtain ⟨hi62, h⟩ := h
        refine jx_bald hX hY.1 k50 _ rfl hi62 dX0_signs_62 63 rfl ?_
        refine kxs_isGreat hX XP.keeps q900 (Nat.le_of_ble_eq_true rfl) (Nat.le_of_ble_eq_true rfl) (Nat.zero_le _) (Nat.zero_le _) (Nat.le_of_ble_eq_true rfl) dX0_signs_63 66 rfl h (fun r63 hb63 h => ?_)
        refine jj_if_eq hX dX0_signs_66 73 69 (by decide) rfl (fun c66 => ?_) (fun c66 => ?_)
        · have h := h.1 c66
          refine jj_iconst hX dX0_signs_73 ci_0 74 rfl ?_
          refine jj_goto hX dX0_signs_74 109 (by decide) ?_
          refine jj_sub (lv2 := [(1, .int x1), (2, .ref x2), (4, .int x4)]) [0, 1, 3] rfl ?_
          exact txw0_signs_B109 hX hY ih h
        · have h := h.2 c66
          refine jj_iconst hX dX0_signs_69 ci_1 70 rfl ?_
          refine jj_goto hX dX0_signs_70 109 (by decide) ?_
          refine jj_sub (lv2 := [(1, .int x1), (2, .ref x2), (4, .int x4)]) [0, 1, 3] rfl ?_
          exact txw0_signs_B109 hX hY ih h
set_option maxHeartbeats 4000000 in
set_option maxRecDepth 100000 in
theorem txw0_signs_B19 {X : JC} {D : va_G} {dA aK aV : Nat → Nat} {sz : Nat} {K : XK} {Post : Int32 → XS → Prop} {x0 : Nat} {x1 : Int32} {s0 : Int32} {s1 : Nat} {u : XS} (hX : JX X yX0_signs.cls cX0_signs 5 (Option.some Jvm.ClassFile.FieldType.int) 2 40 0 0) (hY : JY X D dA aK aV (AX K sz)) (h : xw0_signs_B19 Post K x0 x1 s0 s1 u) : JJ X (AX K sz) (jj_Q X (va_Qi (fun (r : Int32) (w : XS) => Post r w) (jx_B D dA K) (AX K sz)) 0 0 (AX K sz)) 5 (XP D dA (AX K sz) K u) 0 0 19 [(0, .ref x0), (1, .int x1)] [.int s0, .ref s1] := by
  unfold xw0_signs_B19 at h
  obtain ⟨k19, h⟩ := h
  refine xp0_7 hX hY k19 dX0_signs_19 q418 22 rfl (fun u19 e19 => ?_)
  have h := h u19 e19
  refine jj_aload_n hX dX0_signs_22 0 rfl 23 rfl ?_
  obtain ⟨k23, h⟩ := h
  refine xg0_7 hX hY k23 dX0_signs_23 q418 26 rfl ?_
  refine jj_if_le hX dX0_signs_26 31 29 (by decide) rfl (fun c26 => ?_) (fun c26 => ?_)
  · have h := h.1 c26
    refine jj_aload_n hX dX0_signs_31 0 rfl 32 rfl ?_
    refine xg0_10 hX hY k23 dX0_signs_32 q421 35 rfl ?_
    obtain ⟨b35, g35, h⟩ := h
    refine jj_st (st2 := [.ref b35]) (by rw [va_rf_some g35]) ?_
    obtain ⟨k35, h⟩ := h
    refine xgn4_2 hX hY k35 dX0_signs_35 nq319 38 rfl ?_
    obtain ⟨b38, g38, h⟩ := h
    refine jj_st (st2 := [.ref b38]) (by rw [va_rf_some g38]) ?_
    obtain ⟨k38, h⟩ := h
    refine xgn15_0 hX hY k38 dX0_signs_38 nq1000 41 rfl ?_
    obtain ⟨b41, g41, h⟩ := h
    refine jj_st (st2 := [.ref b41]) (by rw [va_rf_some g41]) ?_
    refine jj_astore_n (lv2 := [(1, .int x1), (2, .ref b41)]) hX dX0_signs_41 (Nat.le_of_ble_eq_true rfl) [2, 0] rfl 42 rfl ?_
    refine jj_iconst hX dX0_signs_42 ci_0 43 rfl ?_
    refine jj_istore_n (lv2 := [(1, .int x1), (2, .ref b41), (3, .int (0 : Int32))]) hX dX0_signs_43 (Nat.le_of_ble_eq_true rfl) [1, 2, 0] rfl 44 rfl ?_
    refine jj_iconst hX dX0_signs_44 ci_0 45 rfl ?_
    refine jj_istore (lv2 := [(1, .int x1), (2, .ref b41), (3, .int (0 : Int32)), (4, .int (0 : Int32))]) hX dX0_signs_45 (Nat.le_of_ble_eq_true rfl) [1, 2, 3, 0] rfl 47 rfl ?_
    obtain ⟨n9, h⟩ := h
    exact txw0_signs_L47 hX hY n9 _ _ _ h
  · have h := h.2 c26
    refine jj_iconst hX dX0_signs_29 ci_m1 30 rfl ?_
    exact jj_reti (post := (fun (r : Int32) (w : XS) => Post r w)) (u := u19) hX dX0_signs_30 (Nat.le_refl 0) (Nat.le_refl 0) jx_hB h
set_option maxHeartbeats 4000000 in
set_option maxRecDepth 100000 in
theorem mxw0_signs (l : Launch) (hfl : l.stackTraces = false) (D : va_G) (dA aK aV : Nat → Nat) (x0 : Nat) (x1 : Int32) (K : XK) (u : XS) (Post : Int32 → XS → Prop) (h : xw0_signs x0 x1 K u Post) (sz : Nat) : Met l yX0_signs (ws_ yX0_signs cX0_signs 5 (Option.some Jvm.ClassFile.FieldType.int)) (jx_rm 2 40 0 0) (jx_Pc D dA aK aV K u sz [.ref x0, .int x1]) (va_Qi (fun (r : Int32) (w : XS) => Post r w) (jx_B D dA K) (AX K sz)) 0 0 (AX K sz) := by
  refine jx_start hfl [.ref x0, .int x1] [(0, .ref x0), (1, .int x1)] (by decide) (Nat.le_of_ble_eq_true rfl) rfl (fun X hX hY hin => ?_)
  unfold xw0_signs at h
  refine jj_aload_n hX dX0_signs_0 0 rfl 1 rfl ?_
  refine jj_iload_n hX dX0_signs_1 1 rfl 2 rfl ?_
  refine jj_i2l hX dX0_signs_2 3 rfl ?_
  refine jj_lconst (v := 0) hX dX0_signs_3 (by decide) 4 rfl ?_
  refine jj_lconst (v := 1) hX dX0_signs_4 (by decide) 5 rfl ?_
  refine kxs_isIn hX XP.keeps q1074 (Nat.le_of_ble_eq_true rfl) (Nat.le_of_ble_eq_true rfl) (Nat.zero_le _) (Nat.zero_le _) (Nat.le_of_ble_eq_true rfl) dX0_signs_5 8 rfl h (fun r5 hb5 h => ?_)
  refine jj_if_ne hX dX0_signs_8 15 11 (by decide) rfl (fun c8 => ?_) (fun c8 => ?_)
  · have h := h.1 c8
    refine jj_aload_n hX dX0_signs_15 0 rfl 16 rfl ?_
    obtain ⟨k16, h⟩ := h
    refine kxw0_whyNotSet hX hY k16 q1111 (Nat.le_of_ble_eq_true rfl) (Nat.le_of_ble_eq_true rfl) (Nat.zero_le _) (Nat.zero_le _) (Nat.le_of_ble_eq_true rfl) dX0_signs_16 19 rfl h (fun r16 u16 h => ?_)
    exact txw0_signs_B19 hX hY h
  · have h := h.2 c8
    refine jj_iconst hX dX0_signs_11 ci_1 12 rfl ?_
    refine jj_goto hX dX0_signs_12 19 (by decide) ?_
    exact txw0_signs_B19 hX hY h
theorem hd_xw0_signs : yX0_signs.cls ≠ "java/lang/invoke/MethodHandle" ∧ yX0_signs.cls ≠ "java/lang/invoke/VarHandle" ∧ (parseMethodDescriptor yX0_signs.desc).map (fun d => d.parameters.length) = some 1 := by decide +kernel
theorem kxw0_signs {X : JC} {A : Nat → Prop} {Q : State → Prop} {nL k n pc : Nat} {lv : List (Nat × Value)} {st : List Value} {own : String} {cc : ByteArray} {ret : Option FieldType} {F LL mc ms ix : Nat} {D : va_G} {dA aK aV : Nat → Nat} {K : XK} {u : XS} {x0 : Nat} {x1 : Int32} {Post : Int32 → XS → Prop} (hX : JX X own cc nL ret F LL mc ms) (hY : JY X D dA aK aV A) (h1a : K x0 = (1, 0)) (hlk : (Cond.methodLink own ix yX0_signs) ∈ lw_all) (hF : 2 + 1 ≤ F) (hL : 8 + (5 + 11) + 40 ≤ LL) (hk : k ≤ mc) (hk2 : n ≤ ms) (hw : (st.map fun v => v.category).sum ≤ 8) (d : decode cc pc = .ok (.invokevirtual ix, 3)) (q : Nat) (hq : pc + 3 = q) (h : xw0_signs x0 x1 K u  Post) (kk : ∀ (r : Int32) (u2 : XS), Post r u2 → JJ X A Q nL (XP D dA A K u2) k n q lv (.int r :: st)) : JJ X A Q nL (XP D dA A K u) k n pc lv (.int x1 :: .ref x0 :: st) :=
  jx_callVi (na := 1) (As := [.int x1]) hX hY jf0 h1a (fun sz => mxw0_signs (jj_l X) hY.2.2.2.2 D dA aK aV x0 x1 K u  Post h sz) hlk q1267 q1268 q120 q1269 ⟨rfl, hd_xw0_signs⟩ rfl rfl hw hF hL hk hk2 d q hq kk
theorem knxw0_signs {X : JC} {A : Nat → Prop} {Q : State → Prop} {nL k n pc : Nat} {lv : List (Nat × Value)} {st : List Value} {own : String} {cc : ByteArray} {ret : Option FieldType} {F LL mc ms ix : Nat} {D : va_G} {dA aK aV : Nat → Nat} {K : XK} {u : XS} {x0 : Nat} {x1 : Int32} {host : String} {Post : Int32 → XS → Prop} (hX : JX X own cc nL ret F LL mc ms) (hY : JY X D dA aK aV A) (h1a : K x0 = (1, 0)) (hlk : (Cond.methodLinkNest own ix yX0_signs host) ∈ jx_nest) (hF : 2 + 1 ≤ F) (hL : 8 + (5 + 11) + 40 ≤ LL) (hk : k ≤ mc) (hk2 : n ≤ ms) (hw : (st.map fun v => v.category).sum ≤ 8) (d : decode cc pc = .ok (.invokevirtual ix, 3)) (q : Nat) (hq : pc + 3 = q) (h : xw0_signs x0 x1 K u  Post) (kk : ∀ (r : Int32) (u2 : XS), Post r u2 → JJ X A Q nL (XP D dA A K u2) k n q lv (.int r :: st)) : JJ X A Q nL (XP D dA A K u) k n pc lv (.int x1 :: .ref x0 :: st) :=
  jx_callNi (na := 1) (As := [.int x1]) hX hY jf0 h1a (fun sz => mxw0_signs (jj_l X) hY.2.2.2.2 D dA aK aV x0 x1 K u  Post h sz) hlk q1267 q1268 q120 q1269 hd_xw0_signs rfl rfl hw hF hL hk hk2 d q hq kk
def xw6_covers_L22_S (G4 : Int32 → Int32 → XS → Prop) (Post : Int32 → XS → Prop) (K : XK) (x0 : Nat) (x1 : Int32) (x3 : Int32) (x4 : Int32) (R : Int32 → Int32 → XS → Prop) (x2 : Int32) (x5 : Int32) (u : XS) : Prop :=
  (x4 ≤ x5 →
    (¬ x4 = x3 →
      G4 x2 x4 u) ∧
    (x4 = x3 →
      ∀ v70 : Int32, v70 = (x3 + (1 : Int32)) →
      G4 x2 v70 u)) ∧
  (¬ x4 ≤ x5 →
    K x0 = (1, 6) ∧
    xw6_stands x0 x1 x5 x3 x4 K u (fun r37 u37 =>
      (r37 = 0 →
        ∀ v49 : Int32, v49 = (x2 + (0 : Int32)) →
        ∀ v50 : Int32, v50 = x5 + (1 : Int32) →
        R v49 v50 u37) ∧
      (¬ r37 = 0 →
        ∀ v49 : Int32, v49 = (x2 + (1 : Int32)) →
        ∀ v50 : Int32, v50 = x5 + (1 : Int32) →
        R v49 v50 u37)))
def xw6_covers_L22 (G4 : Int32 → Int32 → XS → Prop) (Post : Int32 → XS → Prop) (K : XK) (x0 : Nat) (x1 : Int32) (x3 : Int32) (x4 : Int32) : Nat → Int32 → Int32 → XS → Prop
  | 0 => fun _ _ _ => False
  | n + 1 => fun x2 x5 u => xw6_covers_L22_S G4 Post K x0 x1 x3 x4 (xw6_covers_L22 G4 Post K x0 x1 x3 x4 n) x2 x5 u
def xw6_covers_L4_S (Post : Int32 → XS → Prop) (K : XK) (x0 : Nat) (x1 : Int32) (R : Int32 → Int32 → XS → Prop) (x2 : Int32) (x3 : Int32) (u : XS) : Prop :=
  K x0 = (1, 6) ∧
  ((xi u x0 3) ≤ x3 →
    Post x2 u) ∧
  (¬ (xi u x0 3) ≤ x3 →
    xw6_wordEnd x0 x3 K u (fun r14 u14 =>
      ∃ n, xw6_covers_L22 R Post K x0 x1 x3 r14 n x2 x3 u14))
def xw6_covers_L4 (Post : Int32 → XS → Prop) (K : XK) (x0 : Nat) (x1 : Int32) : Nat → Int32 → Int32 → XS → Prop
  | 0 => fun _ _ _ => False
  | n + 1 => fun x2 x3 u => xw6_covers_L4_S Post K x0 x1 (xw6_covers_L4 Post K x0 x1 n) x2 x3 u
/-- RaisedPress$Setter.covers(I)I -/
def xw6_covers (x0 : Nat) (x1 : Int32) (K : XK) (u : XS) (Post : Int32 → XS → Prop) : Prop :=
  ∃ n, xw6_covers_L4 Post K x0 x1 n (0 : Int32) (0 : Int32) u
set_option maxHeartbeats 4000000 in
set_option maxRecDepth 100000 in
theorem txw6_covers_L22 {X : JC} {D : va_G} {dA aK aV : Nat → Nat} {sz : Nat} {K : XK} {G4 : Int32 → Int32 → XS → Prop} {Post : Int32 → XS → Prop} {x0 : Nat} {x1 : Int32} {x3 : Int32} {x4 : Int32} (hX : JX X yX6_covers.cls cX6_covers 6 (Option.some Jvm.ClassFile.FieldType.int) 3 67 0 0) (hY : JY X D dA aK aV (AX K sz)) (hG4 : ∀ (y2 : Int32) (y3 : Int32) (u : XS), G4 y2 y3 u → JJ X (AX K sz) (jj_Q X (va_Qi (fun (r : Int32) (w : XS) => Post r w) (jx_B D dA K) (AX K sz)) 0 0 (AX K sz)) 6 (XP D dA (AX K sz) K u) 0 0 4 [(0, .ref x0), (1, .int x1), (2, .int y2), (3, .int y3)] []) : ∀ (n : Nat) (x2 : Int32) (x5 : Int32) (u : XS), xw6_covers_L22 G4 Post K x0 x1 x3 x4 n x2 x5 u → JJ X (AX K sz) (jj_Q X (va_Qi (fun (r : Int32) (w : XS) => Post r w) (jx_B D dA K) (AX K sz)) 0 0 (AX K sz)) 6 (XP D dA (AX K sz) K u) 0 0 22 [(0, .ref x0), (1, .int x1), (2, .int x2), (3, .int x3), (4, .int x4), (5, .int x5)] [] := by
  intro n
  induction n with
  | zero =>
    intro x2 x5 u h
    exact h.elim
  | succ n ih =>
    intro x2 x5 u h
    have h : xw6_covers_L22_S G4 Post K x0 x1 x3 x4 (xw6_covers_L22 G4 Post K x0 x1 x3 x4 n) x2 x5 u := h
    unfold xw6_covers_L22_S at h
    refine jj_iload hX dX6_covers_22 5 rfl 24 rfl ?_
    refine jj_iload hX dX6_covers_24 4 rfl 26 rfl ?_
    refine jj_icmp_ge hX dX6_covers_26 56 29 (by decide) rfl (fun c26 => ?_) (fun c26 => ?_)
    · have h := h.1 c26
      refine jj_iload hX dX6_covers_56 4 rfl 58 rfl ?_
      refine jj_iload_n hX dX6_covers_58 3 rfl 59 rfl ?_
      refine jj_icmp_ne hX dX6_covers_59 68 62 (by decide) rfl (fun c59 => ?_) (fun c59 => ?_)
      · have h := h.1 c59
        refine jj_iload hX dX6_covers_68 4 rfl 70 rfl ?_
        refine jj_istore_n (lv2 := [(0, .ref x0), (1, .int x1), (2, .int x2), (3, .int x4)]) hX dX6_covers_70 (Nat.le_of_ble_eq_true rfl) [1, 2, 3, 0] rfl 71 rfl ?_
        refine jj_goto hX dX6_covers_71 4 (by decide) ?_
        exact hG4 _ _ _ h
      · have h := h.2 c59
        refine jj_iload_n hX dX6_covers_62 3 rfl 63 rfl ?_
        refine jj_iconst hX dX6_covers_63 ci_1 64 rfl ?_
        refine jj_iadd hX dX6_covers_64 65 rfl ?_
        refine jj_goto hX dX6_covers_65 70 (by decide) ?_
        refine jj_topi (fun v70 e70 => ?_)
        have h := h v70 e70
        refine jj_istore_n (lv2 := [(0, .ref x0), (1, .int x1), (2, .int x2), (3, .int v70)]) hX dX6_covers_70 (Nat.le_of_ble_eq_true rfl) [1, 2, 3, 0] rfl 71 rfl ?_
        refine jj_goto hX dX6_covers_71 4 (by decide) ?_
        exact hG4 _ _ _ h
    · have h := h.2 c26
      refine jj_iload_n hX dX6_covers_29 2 rfl 30 rfl ?_
      refine jj_aload_n hX dX6_covers_30 0 rfl 31 rfl ?_
      refine jj_iload_n hX dX6_covers_31 1 rfl 32 rfl ?_
      refine jj_iload hX dX6_covers_32 5 rfl 34 rfl ?_
      refine jj_iload_n hX dX6_covers_34 3 rfl 35 rfl ?_
      refine jj_iload hX dX6_covers_35 4 rfl 37 rfl ?_
      obtain ⟨k37, h⟩ := h
      refine kxw6_stands hX hY k37 q915 (Nat.le_of_ble_eq_true rfl) (Nat.le_of_ble_eq_true rfl) (Nat.zero_le _) (Nat.zero_le _) (Nat.le_of_ble_eq_true rfl) dX6_covers_37 40 rfl h (fun r37 u37 hb37 h => ?_)
      refine jj_if_eq hX dX6_covers_40 47 43 (by decide) rfl (fun c40 => ?_) (fun c40 => ?_)
      · have h := h.1 c40
        refine jj_iconst hX dX6_covers_47 ci_0 48 rfl ?_
        refine jj_iadd hX dX6_covers_48 49 rfl ?_
        refine jj_topi (fun v49 e49 => ?_)
        have h := h v49 e49
        refine jj_istore_n (lv2 := [(0, .ref x0), (1, .int x1), (2, .int v49), (3, .int x3), (4, .int x4), (5, .int x5)]) hX dX6_covers_49 (Nat.le_of_ble_eq_true rfl) [1, 2, 0, 3, 4, 5] rfl 50 rfl ?_
        obtain ⟨v50, e50⟩ : ∃ y : Int32, y = x5 + (1 : Int32) := ⟨_, rfl⟩
        have h := h v50 e50
        refine jj_iinc (v := v50) (lv2 := [(0, .ref x0), (1, .int x1), (2, .int v49), (3, .int x3), (4, .int x4), (5, .int v50)]) hX dX6_covers_50 5 rfl (by rw [e50, ci_1]) (Nat.le_of_ble_eq_true rfl) [1, 2, 3, 4, 5, 0] rfl 53 rfl ?_
        refine jj_goto hX dX6_covers_53 22 (by decide) ?_
        exact ih _ _ _ h
      · have h := h.2 c40
        refine jj_iconst hX dX6_covers_43 ci_1 44 rfl ?_
        refine jj_goto hX dX6_covers_44 48 (by decide) ?_
        refine jj_iadd hX dX6_covers_48 49 rfl ?_
        refine jj_topi (fun v49 e49 => ?_)
        have h := h v49 e49
        refine jj_istore_n (lv2 := [(0, .ref x0), (1, .int x1), (2, .int v49), (3, .int x3), (4, .int x4), (5, .int x5)]) hX dX6_covers_49 (Nat.le_of_ble_eq_true rfl) [1, 2, 0, 3, 4, 5] rfl 50 rfl ?_
        obtain ⟨v50, e50⟩ : ∃ y : Int32, y = x5 + (1 : Int32) := ⟨_, rfl⟩
        have h := h v50 e50
        refine jj_iinc (v := v50) (lv2 := [(0, .ref x0), (1, .int x1), (2, .int v49), (3, .int x3), (4, .int x4), (5, .int v50)]) hX dX6_covers_50 5 rfl (by rw [e50, ci_1]) (Nat.le_of_ble_eq_true rfl) [1, 2, 3, 4, 5, 0] rfl 53 rfl ?_
        refine jj_goto hX dX6_covers_53 22 (by decide) ?_
        exact ih _ _ _ h
set_option maxHeartbeats 4000000 in
set_option maxRecDepth 100000 in
theorem txw6_covers_L4 {X : JC} {D : va_G} {dA aK aV : Nat → Nat} {sz : Nat} {K : XK} {Post : Int32 → XS → Prop} {x0 : Nat} {x1 : Int32} (hX : JX X yX6_covers.cls cX6_covers 6 (Option.some Jvm.ClassFile.FieldType.int) 3 67 0 0) (hY : JY X D dA aK aV (AX K sz)) : ∀ (n : Nat) (x2 : Int32) (x3 : Int32) (u : XS), xw6_covers_L4 Post K x0 x1 n x2 x3 u → JJ X (AX K sz) (jj_Q X (va_Qi (fun (r : Int32) (w : XS) => Post r w) (jx_B D dA K) (AX K sz)) 0 0 (AX K sz)) 6 (XP D dA (AX K sz) K u) 0 0 4 [(0, .ref x0), (1, .int x1), (2, .int x2), (3, .int x3)] [] := by
  intro n
  induction n with
  | zero =>
    intro x2 x3 u h
    exact h.elim
  | succ n ih =>
    intro x2 x3 u h
    have h : xw6_covers_L4_S Post K x0 x1 (xw6_covers_L4 Post K x0 x1 n) x2 x3 u := h
    unfold xw6_covers_L4_S at h
    refine jj_iload_n hX dX6_covers_4 3 rfl 5 rfl ?_
    refine jj_aload_n hX dX6_covers_5 0 rfl 6 rfl ?_
    obtain ⟨k6, h⟩ := h
    refine xg6_3 hX hY k6 dX6_covers_6 q340 9 rfl ?_
    refine jj_icmp_ge hX dX6_covers_9 74 12 (by decide) rfl (fun c9 => ?_) (fun c9 => ?_)
    · have h := h.1 c9
      refine jj_iload_n hX dX6_covers_74 2 rfl 75 rfl ?_
      exact jj_reti (post := (fun (r : Int32) (w : XS) => Post r w)) (u := u) hX dX6_covers_75 (Nat.le_refl 0) (Nat.le_refl 0) jx_hB h
    · have h := h.2 c9
      refine jj_aload_n hX dX6_covers_12 0 rfl 13 rfl ?_
      refine jj_iload_n hX dX6_covers_13 3 rfl 14 rfl ?_
      refine kxw6_wordEnd hX hY k6 q907 (Nat.le_of_ble_eq_true rfl) (Nat.le_of_ble_eq_true rfl) (Nat.zero_le _) (Nat.zero_le _) (Nat.le_of_ble_eq_true rfl) dX6_covers_14 17 rfl h (fun r14 u14 h => ?_)
      refine jj_istore (lv2 := [(0, .ref x0), (1, .int x1), (2, .int x2), (3, .int x3), (4, .int r14)]) hX dX6_covers_17 (Nat.le_of_ble_eq_true rfl) [1, 2, 3, 4, 0] rfl 19 rfl ?_
      refine jj_iload_n hX dX6_covers_19 3 rfl 20 rfl ?_
      refine jj_istore (lv2 := [(0, .ref x0), (1, .int x1), (2, .int x2), (3, .int x3), (4, .int r14), (5, .int x3)]) hX dX6_covers_20 (Nat.le_of_ble_eq_true rfl) [1, 2, 3, 4, 5, 0] rfl 22 rfl ?_
      obtain ⟨n9, h⟩ := h
      exact txw6_covers_L22 hX hY ih n9 _ _ _ h
set_option maxHeartbeats 4000000 in
set_option maxRecDepth 100000 in
theorem mxw6_covers (l : Launch) (hfl : l.stackTraces = false) (D : va_G) (dA aK aV : Nat → Nat) (x0 : Nat) (x1 : Int32) (K : XK) (u : XS) (Post : Int32 → XS → Prop) (h : xw6_covers x0 x1 K u Post) (sz : Nat) : Met l yX6_covers (ws_ yX6_covers cX6_covers 6 (Option.some Jvm.ClassFile.FieldType.int)) (jx_rm 3 67 0 0) (jx_Pc D dA aK aV K u sz [.ref x0, .int x1]) (va_Qi (fun (r : Int32) (w : XS) => Post r w) (jx_B D dA K) (AX K sz)) 0 0 (AX K sz) := by
  refine jx_start hfl [.ref x0, .int x1] [(0, .ref x0), (1, .int x1)] (by decide) (Nat.le_of_ble_eq_true rfl) rfl (fun X hX hY hin => ?_)
  unfold xw6_covers at h
  refine jj_iconst hX dX6_covers_0 ci_0 1 rfl ?_
  refine jj_istore_n (lv2 := [(0, .ref x0), (1, .int x1), (2, .int (0 : Int32))]) hX dX6_covers_1 (Nat.le_of_ble_eq_true rfl) [1, 2, 0] rfl 2 rfl ?_
  refine jj_iconst hX dX6_covers_2 ci_0 3 rfl ?_
  refine jj_istore_n (lv2 := [(0, .ref x0), (1, .int x1), (2, .int (0 : Int32)), (3, .int (0 : Int32))]) hX dX6_covers_3 (Nat.le_of_ble_eq_true rfl) [1, 2, 3, 0] rfl 4 rfl ?_
  obtain ⟨n9, h⟩ := h
  exact txw6_covers_L4 hX hY n9 _ _ _ h
theorem hd_xw6_covers : yX6_covers.cls ≠ "java/lang/invoke/MethodHandle" ∧ yX6_covers.cls ≠ "java/lang/invoke/VarHandle" ∧ (parseMethodDescriptor yX6_covers.desc).map (fun d => d.parameters.length) = some 1 := by decide +kernel
theorem kxw6_covers {X : JC} {A : Nat → Prop} {Q : State → Prop} {nL k n pc : Nat} {lv : List (Nat × Value)} {st : List Value} {own : String} {cc : ByteArray} {ret : Option FieldType} {F LL mc ms ix : Nat} {D : va_G} {dA aK aV : Nat → Nat} {K : XK} {u : XS} {x0 : Nat} {x1 : Int32} {Post : Int32 → XS → Prop} (hX : JX X own cc nL ret F LL mc ms) (hY : JY X D dA aK aV A) (h1a : K x0 = (1, 6)) (hlk : (Cond.methodLink own ix yX6_covers) ∈ lw_all) (hF : 3 + 1 ≤ F) (hL : 8 + (6 + 11) + 67 ≤ LL) (hk : k ≤ mc) (hk2 : n ≤ ms) (hw : (st.map fun v => v.category).sum ≤ 8) (d : decode cc pc = .ok (.invokevirtual ix, 3)) (q : Nat) (hq : pc + 3 = q) (h : xw6_covers x0 x1 K u  Post) (kk : ∀ (r : Int32) (u2 : XS), Post r u2 → JJ X A Q nL (XP D dA A K u2) k n q lv (.int r :: st)) : JJ X A Q nL (XP D dA A K u) k n pc lv (.int x1 :: .ref x0 :: st) :=
  jx_callVi (na := 1) (As := [.int x1]) hX hY jf6 h1a (fun sz => mxw6_covers (jj_l X) hY.2.2.2.2 D dA aK aV x0 x1 K u  Post h sz) hlk q1276 q1277 q128 q1278 ⟨rfl, hd_xw6_covers⟩ rfl rfl hw hF hL hk hk2 d q hq kk
theorem knxw6_covers {X : JC} {A : Nat → Prop} {Q : State → Prop} {nL k n pc : Nat} {lv : List (Nat × Value)} {st : List Value} {own : String} {cc : ByteArray} {ret : Option FieldType} {F LL mc ms ix : Nat} {D : va_G} {dA aK aV : Nat → Nat} {K : XK} {u : XS} {x0 : Nat} {x1 : Int32} {host : String} {Post : Int32 → XS → Prop} (hX : JX X own cc nL ret F LL mc ms) (hY : JY X D dA aK aV A) (h1a : K x0 = (1, 6)) (hlk : (Cond.methodLinkNest own ix yX6_covers host) ∈ jx_nest) (hF : 3 + 1 ≤ F) (hL : 8 + (6 + 11) + 67 ≤ LL) (hk : k ≤ mc) (hk2 : n ≤ ms) (hw : (st.map fun v => v.category).sum ≤ 8) (d : decode cc pc = .ok (.invokevirtual ix, 3)) (q : Nat) (hq : pc + 3 = q) (h : xw6_covers x0 x1 K u  Post) (kk : ∀ (r : Int32) (u2 : XS), Post r u2 → JJ X A Q nL (XP D dA A K u2) k n q lv (.int r :: st)) : JJ X A Q nL (XP D dA A K u) k n pc lv (.int x1 :: .ref x0 :: st) :=
  jx_callNi (na := 1) (As := [.int x1]) hX hY jf6 h1a (fun sz => mxw6_covers (jj_l X) hY.2.2.2.2 D dA aK aV x0 x1 K u  Post h sz) hlk q1276 q1277 q128 q1278 hd_xw6_covers rfl rfl hw hF hL hk hk2 d q hq kk
