set_option linter.unusedVariables false
/-- RaisedPress.ways(II)I -/
def xw0_ways (x0 : Nat) (x1 : Int32) (x2 : Int32) (K : XK) (u : XS) (mc ms : Nat) (Post : Int32 → XK → XS → Prop) : Prop :=
  K x0 = (1, 0) ∧
  ∀ u2 : XS, u2 = xsi u x0 7 (0 : Int32) →
  ∃ b13, (xr u2 x0 15) = some b13 ∧
  ∃ m13 w13, m13 ≤ mc ∧ w13 ≤ ms ∧ xw0_reads x0 x1 x2 (1 : Int32) b13 K u2 m13 w13 (fun K13 u13 =>
    xw0_noneFails x0 K13 u13 (fun u17 =>
      xw0_countWays x0 x2 K13 u17 (fun r22 u22 =>
        Post r22 K13 u22))) (fun q13 K13 u13 =>
    xw0_none x0 q13 K13 u13 (fun r29 u29 =>
      Post r29 K13 u29))
set_option maxHeartbeats 4000000 in
set_option maxRecDepth 100000 in
theorem mxw0_ways (l : Launch) (hfl : l.stackTraces = false) (D : va_G) (dA aK aV : Nat → Nat) (x0 : Nat) (x1 : Int32) (x2 : Int32) (K : XK) (u : XS) (mc ms : Nat) (Post : Int32 → XK → XS → Prop) (h : xw0_ways x0 x1 x2 K u mc ms Post) (sz : Nat) : Met l yX0_ways (wsW_ yX0_ways cX0_ways 4 (Option.some Jvm.ClassFile.FieldType.int) [(5, 25, 26, 48)]) (jx_rm 10 10296 mc ms) (jx_Pc D dA aK aV K u sz [.ref x0, .int x1, .int x2]) (va_Qi (fun (r : Int32) (w : XK × XS) => Post r w.1 w.2) (jx_BA D dA K sz) (AX K sz)) mc ms (AX K sz) := by
  refine jx_startW hfl [.ref x0, .int x1, .int x2] [(0, .ref x0), (1, .int x1), (2, .int x2)] (by decide) (Nat.le_of_ble_eq_true rfl) rfl (fun X hX hY hE => ?_)
  unfold xw0_ways at h
  refine jj_aload_n hX dX0_ways_0 0 rfl 1 rfl ?_
  refine jj_iconst hX dX0_ways_1 ci_0 2 rfl ?_
  obtain ⟨k2, h⟩ := h
  refine xp0_7 hX hY k2 dX0_ways_2 q418 5 rfl (fun u2 e2 => ?_)
  have h := h u2 e2
  refine jj_aload_n hX dX0_ways_5 0 rfl 6 rfl ?_
  refine jj_iload_n hX dX0_ways_6 1 rfl 7 rfl ?_
  refine jj_iload_n hX dX0_ways_7 2 rfl 8 rfl ?_
  refine jj_iconst hX dX0_ways_8 ci_1 9 rfl ?_
  refine jj_aload_n hX dX0_ways_9 0 rfl 10 rfl ?_
  refine xg0_15 hX hY k2 dX0_ways_10 q426 13 rfl ?_
  obtain ⟨b13, g13, h⟩ := h
  refine jj_st (st2 := [.ref b13, .int (1 : Int32), .int x2, .int x1, .ref x0]) (by rw [va_rf_some g13]) ?_
  obtain ⟨m13, w13, hc13, hs13, h⟩ := h
  refine kxw0_reads hX hY k2 q1313 (Nat.le_of_ble_eq_true rfl) (Nat.le_of_ble_eq_true rfl) (by simpa using hc13) (by simpa using hs13) (Nat.le_of_ble_eq_true rfl) dX0_ways_13 16 rfl h (fun q13 K13 u13 hle13 h => jt_cs (k2 := m13) (n2 := w13) (by simp) (by simp) ?_) (fun K13 u13 hle13 h => jj_cs (k2 := m13) (n2 := w13) (by simp) (by simp) ?_)
  · have k13 := hle13.at k2 (by simp)
    have hl13 := XLe.rf.tr hle13
    refine jt_catch0 (nm := "RaisedPress$Refused") hX hY.2.1 hE rfl (by decide) q239 nq241 ?_
    refine jj_astore_n (lv2 := [(0, .ref x0), (3, .ref q13)]) hX dX0_ways_26 (Nat.le_of_ble_eq_true rfl) [1, 0] rfl 27 rfl ?_
    refine jj_aload_n hX dX0_ways_27 0 rfl 28 rfl ?_
    refine jj_aload_n hX dX0_ways_28 1 rfl 29 rfl ?_
    refine kxw0_none hX hY k13 q598 (Nat.le_of_ble_eq_true rfl) (Nat.le_of_ble_eq_true rfl) hc13 hs13 (Nat.le_of_ble_eq_true rfl) dX0_ways_29 32 rfl h (fun r29 u29 h => ?_)
    exact jj_reti (post := (fun (r : Int32) (w : XK × XS) => Post r w.1 w.2)) (u := (K13, u29)) hX dX0_ways_32 hc13 hs13 (jx_hBA hl13) h
  · have k13 := hle13.at k2 (by simp)
    have hl13 := XLe.rf.tr hle13
    refine jj_aload_n hX dX0_ways_16 0 rfl 17 rfl ?_
    refine kxw0_noneFails hX hY k13 q1322 (Nat.le_of_ble_eq_true rfl) (Nat.le_of_ble_eq_true rfl) hc13 hs13 (Nat.le_of_ble_eq_true rfl) dX0_ways_17 20 rfl h (fun u17 h => ?_)
    refine jj_aload_n hX dX0_ways_20 0 rfl 21 rfl ?_
    refine jj_iload_n hX dX0_ways_21 2 rfl 22 rfl ?_
    refine kxw0_countWays hX hY k13 q1326 (Nat.le_of_ble_eq_true rfl) (Nat.le_of_ble_eq_true rfl) hc13 hs13 (Nat.le_of_ble_eq_true rfl) dX0_ways_22 25 rfl h (fun r22 u22 h => ?_)
    exact jj_reti (post := (fun (r : Int32) (w : XK × XS) => Post r w.1 w.2)) (u := (K13, u22)) hX dX0_ways_25 hc13 hs13 (jx_hBA hl13) h
theorem hd_xw0_ways : yX0_ways.cls ≠ "java/lang/invoke/MethodHandle" ∧ yX0_ways.cls ≠ "java/lang/invoke/VarHandle" ∧ (parseMethodDescriptor yX0_ways.desc).map (fun d => d.parameters.length) = some 2 := by decide +kernel
theorem kxw0_ways {X : JC} {A : Nat → Prop} {Q : State → Prop} {nL k n pc : Nat} {lv : List (Nat × Value)} {st : List Value} {own : String} {cc : ByteArray} {ret : Option FieldType} {F LL mc ms ix mc2 ms2 : Nat} {D : va_G} {dA aK aV : Nat → Nat} {K : XK} {u : XS} {x0 : Nat} {x1 : Int32} {x2 : Int32} {Post : Int32 → XK → XS → Prop} (hX : JX X own cc nL ret F LL mc ms) (hY : JY X D dA aK aV A) (h1a : K x0 = (1, 0)) (hlk : (Cond.methodLink own ix yX0_ways) ∈ lw_all) (hF : 10 + 1 ≤ F) (hL : 8 + (4 + 11) + 10296 ≤ LL) (hk : k + mc2 ≤ mc) (hk2 : n + ms2 ≤ ms) (hw : (st.map fun v => v.category).sum ≤ 8) (d : decode cc pc = .ok (.invokevirtual ix, 3)) (q : Nat) (hq : pc + 3 = q) (h : xw0_ways x0 x1 x2 K u mc2 ms2 Post) (kk : ∀ (r : Int32) (K2 : XK) (u2 : XS), XLe K K2 → Post r K2 u2 → JJ X A Q nL (XP D dA A K2 u2) (k + mc2) (n + ms2) q lv (.int r :: st)) : JJ X A Q nL (XP D dA A K u) k n pc lv (.int x2 :: .int x1 :: .ref x0 :: st) :=
  jx_callWVi (na := 2) (As := [.int x1, .int x2]) hX hY jf0 h1a (fun sz => mxw0_ways (jj_l X) hY.2.2.2.2 D dA aK aV x0 x1 x2 K u mc2 ms2 Post h sz) hlk q1310 q1311 q120 q1312 ⟨rfl, hd_xw0_ways⟩ rfl rfl hw hF hL hk hk2 d q hq kk
def xw0_first_L59_S (G51 : Int32 → XK → XS → Nat → Nat → Prop) (Post : Int32 → XK → XS → Prop) (mc ms : Nat) (x0 : Nat) (x2 : Int32) (x3 : Int32) (R : Int32 → XK → XS → Nat → Nat → Prop) (x4 : Int32) (K : XK) (u : XS) (c s : Nat) : Prop :=
  K x0 = (1, 0) ∧
  xw0_stands x0 x4 x3 x2 K u (fun r64 u64 =>
    (r64 = 0 →
      ∀ v90 : Int32, v90 = x4 + (1 : Int32) →
      R v90 K u64 c s) ∧
    (¬ r64 = 0 →
      xw0_at x0 x4 K u64 (fun r78 u78 =>
        xRule K r78 ∧
        ∃ b84, (xr u78 r78 1) = some b84 ∧
        ∃ n84, K b84 = (2, n84) ∧
        ∃ b86, (xr u64 x0 17) = some b86 ∧
        ∃ n86, K b86 = (2, n86) ∧
        vp_in (x3 + (nI n84)) n86 ∧
        (¬ (xi u78 b86 (x3 + (nI n84)).toNatClampNeg) = 0 →
          ∃ b106, (xr u78 x0 18) = some b106 ∧
          ∃ n106, K b106 = (2, n106) ∧
          vp_in (xi u78 x0 19) n106 ∧
          ∀ u106 : XS, u106 = xsi u78 b106 (xi u78 x0 19).toNatClampNeg x4 →
          ∀ u114 : XS, u114 = xsi u106 x0 19 ((xi u106 x0 19) + (1 : Int32)) →
          xw0_at x0 x4 K u114 (fun r125 u125 =>
            xRule K r125 ∧
            ∃ b131, (xr u125 r125 0) = some b131 ∧
            ∃ n131, K b131 = (3, n131) ∧
            ∀ u133 : XS, u133 = xsi u125 x0 20 ((xi u114 x0 20) + (nI n131)) →
            xw0_at x0 x4 K u133 (fun r140 u140 =>
              xRule K r140 ∧
              ∃ b146, (xr u140 r140 1) = some b146 ∧
              ∃ n146, K b146 = (2, n146) ∧
              ∀ v148 : Int32, v148 = (x3 + (nI n146)) →
              G51 v148 K u140 c s))) ∧
        ((xi u78 b86 (x3 + (nI n84)).toNatClampNeg) = 0 →
          ∀ v90 : Int32, v90 = x4 + (1 : Int32) →
          R v90 K u78 c s))))
def xw0_first_L59 (G51 : Int32 → XK → XS → Nat → Nat → Prop) (Post : Int32 → XK → XS → Prop) (mc ms : Nat) (x0 : Nat) (x2 : Int32) (x3 : Int32) : Nat → Int32 → XK → XS → Nat → Nat → Prop
  | 0 => fun _ _ _ _ _ => False
  | n + 1 => fun x4 K u c s => xw0_first_L59_S G51 Post mc ms x0 x2 x3 (xw0_first_L59 G51 Post mc ms x0 x2 x3 n) x4 K u c s
def xw0_first_L51_S (Post : Int32 → XK → XS → Prop) (mc ms : Nat) (x0 : Nat) (x2 : Int32) (R : Int32 → XK → XS → Nat → Nat → Prop) (x3 : Int32) (K : XK) (u : XS) (c s : Nat) : Prop :=
  (x2 ≤ x3 →
    K x0 = (1, 0) ∧
    Post (xi u x0 19) K u) ∧
  (¬ x2 ≤ x3 →
    ∃ n, xw0_first_L59 R Post mc ms x0 x2 x3 n (0 : Int32) K u c s)
def xw0_first_L51 (Post : Int32 → XK → XS → Prop) (mc ms : Nat) (x0 : Nat) (x2 : Int32) : Nat → Int32 → XK → XS → Nat → Nat → Prop
  | 0 => fun _ _ _ _ _ => False
  | n + 1 => fun x3 K u c s => xw0_first_L51_S Post mc ms x0 x2 (xw0_first_L51 Post mc ms x0 x2 n) x3 K u c s
def xw0_first_B34 (Post : Int32 → XK → XS → Prop) (mc ms : Nat) (x0 : Nat) (x2 : Int32) (s0 : Int32) (s1 : Nat) (K : XK) (u : XS) (c s : Nat) : Prop :=
  K s1 = (1, 0) ∧
  ∃ m36 w36, (c + m36) ≤ mc ∧ (s + w36) ≤ ms ∧ xw0_want s1 s0 (6 : Int32) K u m36 w36 (fun K36 u36 =>
    K36 x0 = (1, 0) ∧
    ∀ u41 : XS, u41 = xsi u36 x0 19 (0 : Int32) →
    ∀ u46 : XS, u46 = xsi u41 x0 20 (0 : Int32) →
    ∃ n, xw0_first_L51 Post mc ms x0 x2 n (0 : Int32) K36 u46 (c + m36) (s + w36)) (fun q36 K36 u36 =>
    K36 x0 = (1, 0) ∧
    xw0_none x0 q36 K36 u36 (fun r160 u160 =>
      Post r160 K36 u160))
/-- RaisedPress.first(II)I -/
def xw0_first (x0 : Nat) (x1 : Int32) (x2 : Int32) (K : XK) (u : XS) (mc ms : Nat) (Post : Int32 → XK → XS → Prop) : Prop :=
  K x0 = (1, 0) ∧
  ∀ u2 : XS, u2 = xsi u x0 7 (0 : Int32) →
  ∃ b13, (xr u2 x0 15) = some b13 ∧
  ∃ m13 w13, m13 ≤ mc ∧ w13 ≤ ms ∧ xw0_reads x0 x1 x2 (1 : Int32) b13 K u2 m13 w13 (fun K13 u13 =>
    xw0_noneFails x0 K13 u13 (fun u17 =>
      xw0_countWays x0 x2 K13 u17 (fun r23 u23 =>
        (r23 ≤ 0 →
          xw0_first_B34 Post mc ms x0 x2 (0 : Int32) x0 K13 u23 m13 w13) ∧
        (¬ r23 ≤ 0 →
          xw0_first_B34 Post mc ms x0 x2 (1 : Int32) x0 K13 u23 m13 w13)))) (fun q13 K13 u13 =>
    xw0_none x0 q13 K13 u13 (fun r160 u160 =>
      Post r160 K13 u160))
set_option maxHeartbeats 4000000 in
set_option maxRecDepth 100000 in
theorem txw0_first_L59 {X : JC} {D : va_G} {dA aK aV : Nat → Nat} {sz : Nat} {K0 : XK} {mc ms : Nat} {G51 : Int32 → XK → XS → Nat → Nat → Prop} {Post : Int32 → XK → XS → Prop} {x0 : Nat} {x2 : Int32} {x3 : Int32} (hX : JX X yX0_first.cls cX0_first 5 (Option.some Jvm.ClassFile.FieldType.int) 10 10296 mc ms) (hY : JY X D dA aK aV (AX K0 sz)) (hE : JE X [(5, 156, 157, 48)]) (hG51 : ∀ (y3 : Int32) (K : XK) (u : XS) (c s : Nat) (hl : XLe K0 K) (hc : c ≤ mc) (hs : s ≤ ms), G51 y3 K u c s → JJ X (AX K0 sz) (jj_Q X (va_Qi (fun (r : Int32) (w : XK × XS) => Post r w.1 w.2) (jx_BA D dA K0 sz) (AX K0 sz)) mc ms (AX K0 sz)) 5 (XP D dA (AX K0 sz) K u) c s 51 [(0, .ref x0), (2, .int x2), (3, .int y3)] []) : ∀ (n : Nat) (x4 : Int32) (K : XK) (u : XS) (c s : Nat) (hl : XLe K0 K) (hc : c ≤ mc) (hs : s ≤ ms), xw0_first_L59 G51 Post mc ms x0 x2 x3 n x4 K u c s → JJ X (AX K0 sz) (jj_Q X (va_Qi (fun (r : Int32) (w : XK × XS) => Post r w.1 w.2) (jx_BA D dA K0 sz) (AX K0 sz)) mc ms (AX K0 sz)) 5 (XP D dA (AX K0 sz) K u) c s 59 [(0, .ref x0), (2, .int x2), (3, .int x3), (4, .int x4)] [] := by
  intro n
  induction n with
  | zero =>
    intro x4 K u c s hl hc hs h
    exact h.elim
  | succ n ih =>
    intro x4 K u c s hl hc hs h
    have h : xw0_first_L59_S G51 Post mc ms x0 x2 x3 (xw0_first_L59 G51 Post mc ms x0 x2 x3 n) x4 K u c s := h
    unfold xw0_first_L59_S at h
    refine jj_aload_n hX dX0_first_59 0 rfl 60 rfl ?_
    refine jj_iload hX dX0_first_60 3 rfl 62 rfl ?_
    refine jj_iload_n hX dX0_first_62 2 rfl 63 rfl ?_
    refine jj_iload_n hX dX0_first_63 1 rfl 64 rfl ?_
    obtain ⟨k64, h⟩ := h
    refine kxw0_stands hX hY k64 q1330 (Nat.le_of_ble_eq_true rfl) (Nat.le_of_ble_eq_true rfl) hc hs (Nat.le_of_ble_eq_true rfl) dX0_first_64 67 rfl h (fun r64 u64 hb64 h => ?_)
    refine jj_if_eq hX dX0_first_67 90 70 (by decide) rfl (fun c67 => ?_) (fun c67 => ?_)
    · have h := h.1 c67
      obtain ⟨v90, e90⟩ : ∃ y : Int32, y = x4 + (1 : Int32) := ⟨_, rfl⟩
      have h := h v90 e90
      refine jj_iinc (v := v90) (lv2 := [(0, .ref x0), (2, .int x2), (3, .int x3), (4, .int v90)]) hX dX0_first_90 3 rfl (by rw [e90, ci_1]) (Nat.le_of_ble_eq_true rfl) [1, 2, 3, 0] rfl 93 rfl ?_
      refine jj_goto hX dX0_first_93 59 (by decide) ?_
      exact ih _ _ _ _ _ hl hc hs h
    · have h := h.2 c67
      refine jj_aload_n hX dX0_first_70 0 rfl 71 rfl ?_
      refine xg0_17 hX hY k64 dX0_first_71 q428 74 rfl ?_
      refine jj_iload_n hX dX0_first_74 2 rfl 75 rfl ?_
      refine jj_aload_n hX dX0_first_75 0 rfl 76 rfl ?_
      refine jj_iload hX dX0_first_76 3 rfl 78 rfl ?_
      refine kxw0_at hX hY k64 q1090 (Nat.le_of_ble_eq_true rfl) (Nat.le_of_ble_eq_true rfl) hc hs (by simp [jx_rfc, jx_c1, jx_c2, jx_c3, jx_c4]) dX0_first_78 81 rfl h (fun r78 u78 h => ?_)
      obtain ⟨k81, h⟩ := h
      refine xgr_1 hX hY k81 dX0_first_81 q777 84 rfl ?_
      obtain ⟨b84, g84, h⟩ := h
      refine jj_st (st2 := [.ref b84, .int x3, va_rf (xr u64 x0 17)]) (by rw [va_rf_some g84]) ?_
      obtain ⟨n84, k84, h⟩ := h
      refine jx_alen hX hY.1 k84 dX0_first_84 85 rfl ?_
      refine jj_iadd hX dX0_first_85 86 rfl ?_
      obtain ⟨b86, g86, h⟩ := h
      refine jj_st (st2 := [.int (x3 + (nI n84)), .ref b86]) (by rw [va_rf_some g86]) ?_
      obtain ⟨n86, k86, h⟩ := h
      obtain ⟨hi86, h⟩ := h
      refine jx_iald hX hY.1 k86 _ rfl hi86 dX0_first_86 87 rfl ?_
      refine jj_if_ne hX dX0_first_87 96 90 (by decide) rfl (fun c87 => ?_) (fun c87 => ?_)
      · have h := h.1 c87
        refine jj_aload_n hX dX0_first_96 0 rfl 97 rfl ?_
        refine xg0_18 hX hY k64 dX0_first_97 q429 100 rfl ?_
        refine jj_aload_n hX dX0_first_100 0 rfl 101 rfl ?_
        refine xg0_19 hX hY k64 dX0_first_101 q430 104 rfl ?_
        refine jj_iload hX dX0_first_104 3 rfl 106 rfl ?_
        obtain ⟨b106, g106, h⟩ := h
        refine jj_st (st2 := [.int x4, .int (xi u78 x0 19), .ref b106]) (by rw [va_rf_some g106]) ?_
        obtain ⟨n106, k106, h⟩ := h
        obtain ⟨hi106, h⟩ := h
        refine jx_iast hX hY.1 k106 _ rfl hi106 dX0_first_106 107 rfl (fun u106 e106 => ?_)
        have h := h u106 e106
        refine jj_aload_n hX dX0_first_107 0 rfl 108 rfl ?_
        refine jj_dup hX dX0_first_108 rfl 109 rfl ?_
        refine xg0_19 hX hY k64 dX0_first_109 q430 112 rfl ?_
        refine jj_iconst hX dX0_first_112 ci_1 113 rfl ?_
        refine jj_iadd hX dX0_first_113 114 rfl ?_
        refine xp0_19 hX hY k64 dX0_first_114 q430 117 rfl (fun u114 e114 => ?_)
        have h := h u114 e114
        refine jj_aload_n hX dX0_first_117 0 rfl 118 rfl ?_
        refine jj_dup hX dX0_first_118 rfl 119 rfl ?_
        refine xg0_20 hX hY k64 dX0_first_119 q431 122 rfl ?_
        refine jj_aload_n hX dX0_first_122 0 rfl 123 rfl ?_
        refine jj_iload hX dX0_first_123 3 rfl 125 rfl ?_
        refine kxw0_at hX hY k64 q1090 (Nat.le_of_ble_eq_true rfl) (Nat.le_of_ble_eq_true rfl) hc hs (Nat.le_of_ble_eq_true rfl) dX0_first_125 128 rfl h (fun r125 u125 h => ?_)
        obtain ⟨k128, h⟩ := h
        refine xgr_0 hX hY k128 dX0_first_128 q774 131 rfl ?_
        obtain ⟨b131, g131, h⟩ := h
        refine jj_st (st2 := [.ref b131, .int (xi u114 x0 20), .ref x0]) (by rw [va_rf_some g131]) ?_
        obtain ⟨n131, k131, h⟩ := h
        refine jx_alen hX hY.1 k131 dX0_first_131 132 rfl ?_
        refine jj_iadd hX dX0_first_132 133 rfl ?_
        refine xp0_20 hX hY k64 dX0_first_133 q431 136 rfl (fun u133 e133 => ?_)
        have h := h u133 e133
        refine jj_iload_n hX dX0_first_136 2 rfl 137 rfl ?_
        refine jj_aload_n hX dX0_first_137 0 rfl 138 rfl ?_
        refine jj_iload hX dX0_first_138 3 rfl 140 rfl ?_
        refine kxw0_at hX hY k64 q1090 (Nat.le_of_ble_eq_true rfl) (Nat.le_of_ble_eq_true rfl) hc hs (Nat.le_of_ble_eq_true rfl) dX0_first_140 143 rfl h (fun r140 u140 h => ?_)
        obtain ⟨k143, h⟩ := h
        refine xgr_1 hX hY k143 dX0_first_143 q777 146 rfl ?_
        obtain ⟨b146, g146, h⟩ := h
        refine jj_st (st2 := [.ref b146, .int x3]) (by rw [va_rf_some g146]) ?_
        obtain ⟨n146, k146, h⟩ := h
        refine jx_alen hX hY.1 k146 dX0_first_146 147 rfl ?_
        refine jj_iadd hX dX0_first_147 148 rfl ?_
        refine jj_topi (fun v148 e148 => ?_)
        have h := h v148 e148
        refine jj_istore_n (lv2 := [(0, .ref x0), (2, .int x2), (3, .int v148)]) hX dX0_first_148 (Nat.le_of_ble_eq_true rfl) [1, 2, 0] rfl 149 rfl ?_
        refine jj_goto hX dX0_first_149 51 (by decide) ?_
        exact hG51 _ _ _ _ _ hl hc hs h
      · have h := h.2 c87
        obtain ⟨v90, e90⟩ : ∃ y : Int32, y = x4 + (1 : Int32) := ⟨_, rfl⟩
        have h := h v90 e90
        refine jj_iinc (v := v90) (lv2 := [(0, .ref x0), (2, .int x2), (3, .int x3), (4, .int v90)]) hX dX0_first_90 3 rfl (by rw [e90, ci_1]) (Nat.le_of_ble_eq_true rfl) [1, 2, 3, 0] rfl 93 rfl ?_
        refine jj_goto hX dX0_first_93 59 (by decide) ?_
        exact ih _ _ _ _ _ hl hc hs h
set_option maxHeartbeats 4000000 in
set_option maxRecDepth 100000 in
theorem txw0_first_L51 {X : JC} {D : va_G} {dA aK aV : Nat → Nat} {sz : Nat} {K0 : XK} {mc ms : Nat} {Post : Int32 → XK → XS → Prop} {x0 : Nat} {x2 : Int32} (hX : JX X yX0_first.cls cX0_first 5 (Option.some Jvm.ClassFile.FieldType.int) 10 10296 mc ms) (hY : JY X D dA aK aV (AX K0 sz)) (hE : JE X [(5, 156, 157, 48)]) : ∀ (n : Nat) (x3 : Int32) (K : XK) (u : XS) (c s : Nat) (hl : XLe K0 K) (hc : c ≤ mc) (hs : s ≤ ms), xw0_first_L51 Post mc ms x0 x2 n x3 K u c s → JJ X (AX K0 sz) (jj_Q X (va_Qi (fun (r : Int32) (w : XK × XS) => Post r w.1 w.2) (jx_BA D dA K0 sz) (AX K0 sz)) mc ms (AX K0 sz)) 5 (XP D dA (AX K0 sz) K u) c s 51 [(0, .ref x0), (2, .int x2), (3, .int x3)] [] := by
  intro n
  induction n with
  | zero =>
    intro x3 K u c s hl hc hs h
    exact h.elim
  | succ n ih =>
    intro x3 K u c s hl hc hs h
    have h : xw0_first_L51_S Post mc ms x0 x2 (xw0_first_L51 Post mc ms x0 x2 n) x3 K u c s := h
    unfold xw0_first_L51_S at h
    refine jj_iload_n hX dX0_first_51 2 rfl 52 rfl ?_
    refine jj_iload_n hX dX0_first_52 1 rfl 53 rfl ?_
    refine jj_icmp_ge hX dX0_first_53 152 56 (by decide) rfl (fun c53 => ?_) (fun c53 => ?_)
    · have h := h.1 c53
      refine jj_aload_n hX dX0_first_152 0 rfl 153 rfl ?_
      obtain ⟨k153, h⟩ := h
      refine xg0_19 hX hY k153 dX0_first_153 q430 156 rfl ?_
      exact jj_reti (post := (fun (r : Int32) (w : XK × XS) => Post r w.1 w.2)) (u := (K, u)) hX dX0_first_156 hc hs (jx_hBA hl) h
    · have h := h.2 c53
      refine jj_iconst hX dX0_first_56 ci_0 57 rfl ?_
      refine jj_istore (lv2 := [(0, .ref x0), (2, .int x2), (3, .int x3), (4, .int (0 : Int32))]) hX dX0_first_57 (Nat.le_of_ble_eq_true rfl) [1, 2, 3, 0] rfl 59 rfl ?_
      obtain ⟨n9, h⟩ := h
      exact txw0_first_L59 hX hY hE ih n9 _ _ _ _ _ hl hc hs h
set_option maxHeartbeats 4000000 in
set_option maxRecDepth 100000 in
theorem txw0_first_B34 {X : JC} {D : va_G} {dA aK aV : Nat → Nat} {sz : Nat} {K0 : XK} {mc ms : Nat} {Post : Int32 → XK → XS → Prop} {x0 : Nat} {x2 : Int32} {s0 : Int32} {s1 : Nat} {K : XK} {u : XS} {c s : Nat} (hX : JX X yX0_first.cls cX0_first 5 (Option.some Jvm.ClassFile.FieldType.int) 10 10296 mc ms) (hY : JY X D dA aK aV (AX K0 sz)) (hE : JE X [(5, 156, 157, 48)]) (hl : XLe K0 K) (hc : c ≤ mc) (hs : s ≤ ms) (h : xw0_first_B34 Post mc ms x0 x2 s0 s1 K u c s) : JJ X (AX K0 sz) (jj_Q X (va_Qi (fun (r : Int32) (w : XK × XS) => Post r w.1 w.2) (jx_BA D dA K0 sz) (AX K0 sz)) mc ms (AX K0 sz)) 5 (XP D dA (AX K0 sz) K u) c s 34 [(0, .ref x0), (2, .int x2)] [.int s0, .ref s1] := by
  unfold xw0_first_B34 at h
  refine jj_bipush hX dX0_first_34 cb_6 36 rfl ?_
  obtain ⟨k36, h⟩ := h
  obtain ⟨m36, w36, hc36, hs36, h⟩ := h
  refine kxw0_want hX hY k36 q539 (Nat.le_of_ble_eq_true rfl) (Nat.le_of_ble_eq_true rfl) hc36 hs36 (Nat.le_of_ble_eq_true rfl) dX0_first_36 39 rfl h (fun q36 K36 u36 hle36 h => jt_cs (k2 := (c + m36)) (n2 := (s + w36)) (by simp) (by simp) ?_) (fun K36 u36 hle36 h => jj_cs (k2 := (c + m36)) (n2 := (s + w36)) (by simp) (by simp) ?_)
  · have k36_1 := hle36.at k36 (by simp)
    have hl36 := hl.tr hle36
    refine jt_catch0 (nm := "RaisedPress$Refused") hX hY.2.1 hE rfl (by decide) q239 nq241 ?_
    refine jj_astore_n (lv2 := [(0, .ref x0), (3, .ref q36)]) hX dX0_first_157 (Nat.le_of_ble_eq_true rfl) [1, 0] rfl 158 rfl ?_
    refine jj_aload_n hX dX0_first_158 0 rfl 159 rfl ?_
    refine jj_aload_n hX dX0_first_159 1 rfl 160 rfl ?_
    obtain ⟨k160, h⟩ := h
    refine kxw0_none hX hY k160 q598 (Nat.le_of_ble_eq_true rfl) (Nat.le_of_ble_eq_true rfl) hc36 hs36 (Nat.le_of_ble_eq_true rfl) dX0_first_160 163 rfl h (fun r160 u160 h => ?_)
    exact jj_reti (post := (fun (r : Int32) (w : XK × XS) => Post r w.1 w.2)) (u := (K36, u160)) hX dX0_first_163 hc36 hs36 (jx_hBA hl36) h
  · have k36_1 := hle36.at k36 (by simp)
    have hl36 := hl.tr hle36
    refine jj_aload_n hX dX0_first_39 0 rfl 40 rfl ?_
    refine jj_iconst hX dX0_first_40 ci_0 41 rfl ?_
    obtain ⟨k41, h⟩ := h
    refine xp0_19 hX hY k41 dX0_first_41 q430 44 rfl (fun u41 e41 => ?_)
    have h := h u41 e41
    refine jj_aload_n hX dX0_first_44 0 rfl 45 rfl ?_
    refine jj_iconst hX dX0_first_45 ci_0 46 rfl ?_
    refine xp0_20 hX hY k41 dX0_first_46 q431 49 rfl (fun u46 e46 => ?_)
    have h := h u46 e46
    refine jj_iconst hX dX0_first_49 ci_0 50 rfl ?_
    refine jj_istore_n (lv2 := [(0, .ref x0), (2, .int x2), (3, .int (0 : Int32))]) hX dX0_first_50 (Nat.le_of_ble_eq_true rfl) [1, 2, 0] rfl 51 rfl ?_
    obtain ⟨n9, h⟩ := h
    exact txw0_first_L51 hX hY hE n9 _ _ _ _ _ hl36 hc36 hs36 h
set_option maxHeartbeats 4000000 in
set_option maxRecDepth 100000 in
theorem mxw0_first (l : Launch) (hfl : l.stackTraces = false) (D : va_G) (dA aK aV : Nat → Nat) (x0 : Nat) (x1 : Int32) (x2 : Int32) (K : XK) (u : XS) (mc ms : Nat) (Post : Int32 → XK → XS → Prop) (h : xw0_first x0 x1 x2 K u mc ms Post) (sz : Nat) : Met l yX0_first (wsW_ yX0_first cX0_first 5 (Option.some Jvm.ClassFile.FieldType.int) [(5, 156, 157, 48)]) (jx_rm 10 10296 mc ms) (jx_Pc D dA aK aV K u sz [.ref x0, .int x1, .int x2]) (va_Qi (fun (r : Int32) (w : XK × XS) => Post r w.1 w.2) (jx_BA D dA K sz) (AX K sz)) mc ms (AX K sz) := by
  refine jx_startW hfl [.ref x0, .int x1, .int x2] [(0, .ref x0), (1, .int x1), (2, .int x2)] (by decide) (Nat.le_of_ble_eq_true rfl) rfl (fun X hX hY hE => ?_)
  unfold xw0_first at h
  refine jj_aload_n hX dX0_first_0 0 rfl 1 rfl ?_
  refine jj_iconst hX dX0_first_1 ci_0 2 rfl ?_
  obtain ⟨k2, h⟩ := h
  refine xp0_7 hX hY k2 dX0_first_2 q418 5 rfl (fun u2 e2 => ?_)
  have h := h u2 e2
  refine jj_aload_n hX dX0_first_5 0 rfl 6 rfl ?_
  refine jj_iload_n hX dX0_first_6 1 rfl 7 rfl ?_
  refine jj_iload_n hX dX0_first_7 2 rfl 8 rfl ?_
  refine jj_iconst hX dX0_first_8 ci_1 9 rfl ?_
  refine jj_aload_n hX dX0_first_9 0 rfl 10 rfl ?_
  refine xg0_15 hX hY k2 dX0_first_10 q426 13 rfl ?_
  obtain ⟨b13, g13, h⟩ := h
  refine jj_st (st2 := [.ref b13, .int (1 : Int32), .int x2, .int x1, .ref x0]) (by rw [va_rf_some g13]) ?_
  obtain ⟨m13, w13, hc13, hs13, h⟩ := h
  refine kxw0_reads hX hY k2 q1313 (Nat.le_of_ble_eq_true rfl) (Nat.le_of_ble_eq_true rfl) (by simpa using hc13) (by simpa using hs13) (Nat.le_of_ble_eq_true rfl) dX0_first_13 16 rfl h (fun q13 K13 u13 hle13 h => jt_cs (k2 := m13) (n2 := w13) (by simp) (by simp) ?_) (fun K13 u13 hle13 h => jj_cs (k2 := m13) (n2 := w13) (by simp) (by simp) ?_)
  · have k13 := hle13.at k2 (by simp)
    have hl13 := XLe.rf.tr hle13
    refine jt_catch0 (nm := "RaisedPress$Refused") hX hY.2.1 hE rfl (by decide) q239 nq241 ?_
    refine jj_astore_n (lv2 := [(0, .ref x0), (3, .ref q13)]) hX dX0_first_157 (Nat.le_of_ble_eq_true rfl) [1, 0] rfl 158 rfl ?_
    refine jj_aload_n hX dX0_first_158 0 rfl 159 rfl ?_
    refine jj_aload_n hX dX0_first_159 1 rfl 160 rfl ?_
    refine kxw0_none hX hY k13 q598 (Nat.le_of_ble_eq_true rfl) (Nat.le_of_ble_eq_true rfl) hc13 hs13 (Nat.le_of_ble_eq_true rfl) dX0_first_160 163 rfl h (fun r160 u160 h => ?_)
    exact jj_reti (post := (fun (r : Int32) (w : XK × XS) => Post r w.1 w.2)) (u := (K13, u160)) hX dX0_first_163 hc13 hs13 (jx_hBA hl13) h
  · have k13 := hle13.at k2 (by simp)
    have hl13 := XLe.rf.tr hle13
    refine jj_aload_n hX dX0_first_16 0 rfl 17 rfl ?_
    refine kxw0_noneFails hX hY k13 q1322 (Nat.le_of_ble_eq_true rfl) (Nat.le_of_ble_eq_true rfl) hc13 hs13 (Nat.le_of_ble_eq_true rfl) dX0_first_17 20 rfl h (fun u17 h => ?_)
    refine jj_aload_n hX dX0_first_20 0 rfl 21 rfl ?_
    refine jj_aload_n hX dX0_first_21 0 rfl 22 rfl ?_
    refine jj_iload_n hX dX0_first_22 2 rfl 23 rfl ?_
    refine kxw0_countWays hX hY k13 q1326 (Nat.le_of_ble_eq_true rfl) (Nat.le_of_ble_eq_true rfl) hc13 hs13 (Nat.le_of_ble_eq_true rfl) dX0_first_23 26 rfl h (fun r23 u23 h => ?_)
    refine jj_if_le hX dX0_first_26 33 29 (by decide) rfl (fun c26 => ?_) (fun c26 => ?_)
    · have h := h.1 c26
      refine jj_iconst hX dX0_first_33 ci_0 34 rfl ?_
      refine jj_sub (lv2 := [(0, .ref x0), (2, .int x2)]) [0, 2] rfl ?_
      exact txw0_first_B34 hX hY hE hl13 hc13 hs13 h
    · have h := h.2 c26
      refine jj_iconst hX dX0_first_29 ci_1 30 rfl ?_
      refine jj_goto hX dX0_first_30 34 (by decide) ?_
      refine jj_sub (lv2 := [(0, .ref x0), (2, .int x2)]) [0, 2] rfl ?_
      exact txw0_first_B34 hX hY hE hl13 hc13 hs13 h
theorem hd_xw0_first : yX0_first.cls ≠ "java/lang/invoke/MethodHandle" ∧ yX0_first.cls ≠ "java/lang/invoke/VarHandle" ∧ (parseMethodDescriptor yX0_first.desc).map (fun d => d.parameters.length) = some 2 := by decide +kernel
theorem kxw0_first {X : JC} {A : Nat → Prop} {Q : State → Prop} {nL k n pc : Nat} {lv : List (Nat × Value)} {st : List Value} {own : String} {cc : ByteArray} {ret : Option FieldType} {F LL mc ms ix mc2 ms2 : Nat} {D : va_G} {dA aK aV : Nat → Nat} {K : XK} {u : XS} {x0 : Nat} {x1 : Int32} {x2 : Int32} {Post : Int32 → XK → XS → Prop} (hX : JX X own cc nL ret F LL mc ms) (hY : JY X D dA aK aV A) (h1a : K x0 = (1, 0)) (hlk : (Cond.methodLink own ix yX0_first) ∈ lw_all) (hF : 10 + 1 ≤ F) (hL : 8 + (5 + 11) + 10296 ≤ LL) (hk : k + mc2 ≤ mc) (hk2 : n + ms2 ≤ ms) (hw : (st.map fun v => v.category).sum ≤ 8) (d : decode cc pc = .ok (.invokevirtual ix, 3)) (q : Nat) (hq : pc + 3 = q) (h : xw0_first x0 x1 x2 K u mc2 ms2 Post) (kk : ∀ (r : Int32) (K2 : XK) (u2 : XS), XLe K K2 → Post r K2 u2 → JJ X A Q nL (XP D dA A K2 u2) (k + mc2) (n + ms2) q lv (.int r :: st)) : JJ X A Q nL (XP D dA A K u) k n pc lv (.int x2 :: .int x1 :: .ref x0 :: st) :=
  jx_callWVi (na := 2) (As := [.int x1, .int x2]) hX hY jf0 h1a (fun sz => mxw0_first (jj_l X) hY.2.2.2.2 D dA aK aV x0 x1 x2 K u mc2 ms2 Post h sz) hlk q1337 q1338 q120 q1339 ⟨rfl, hd_xw0_first⟩ rfl rfl hw hF hL hk hk2 d q hq kk
/-- RaisedPress.firstAt(I)I -/
def xw0_firstAt (x0 : Nat) (x1 : Int32) (K : XK) (u : XS) (Post : Int32 → XS → Prop) : Prop :=
  K x0 = (1, 0) ∧
  xs_isIn x1.toInt64 (0 : Int64) ((xi u x0 19) - (1 : Int32)).toInt64 (fun r11 =>
    (r11 = 0 →
      xw0_answer x0 (-1 : Int32) K u (fun r27 u27 =>
        Post r27 u27)) ∧
    (¬ r11 = 0 →
      ∃ b22, (xr u x0 18) = some b22 ∧
      ∃ n22, K b22 = (2, n22) ∧
      vp_in x1 n22 ∧
      xw0_answer x0 (xi u b22 x1.toNatClampNeg) K u (fun r27 u27 =>
        Post r27 u27)))
set_option maxHeartbeats 4000000 in
set_option maxRecDepth 100000 in
theorem mxw0_firstAt (l : Launch) (hfl : l.stackTraces = false) (D : va_G) (dA aK aV : Nat → Nat) (x0 : Nat) (x1 : Int32) (K : XK) (u : XS) (Post : Int32 → XS → Prop) (h : xw0_firstAt x0 x1 K u Post) (sz : Nat) : Met l yX0_firstAt (ws_ yX0_firstAt cX0_firstAt 2 (Option.some Jvm.ClassFile.FieldType.int)) (jx_rm 1 25 0 0) (jx_Pc D dA aK aV K u sz [.ref x0, .int x1]) (va_Qi (fun (r : Int32) (w : XS) => Post r w) (jx_B D dA K) (AX K sz)) 0 0 (AX K sz) := by
  refine jx_start hfl [.ref x0, .int x1] [(0, .ref x0), (1, .int x1)] (by decide) (Nat.le_of_ble_eq_true rfl) rfl (fun X hX hY hin => ?_)
  unfold xw0_firstAt at h
  refine jj_aload_n hX dX0_firstAt_0 0 rfl 1 rfl ?_
  refine jj_iload_n hX dX0_firstAt_1 1 rfl 2 rfl ?_
  refine jj_i2l hX dX0_firstAt_2 3 rfl ?_
  refine jj_lconst (v := 0) hX dX0_firstAt_3 (by decide) 4 rfl ?_
  refine jj_aload_n hX dX0_firstAt_4 0 rfl 5 rfl ?_
  obtain ⟨k5, h⟩ := h
  refine xg0_19 hX hY k5 dX0_firstAt_5 q430 8 rfl ?_
  refine jj_iconst hX dX0_firstAt_8 ci_1 9 rfl ?_
  refine jj_isub hX dX0_firstAt_9 10 rfl ?_
  refine jj_i2l hX dX0_firstAt_10 11 rfl ?_
  refine kxs_isIn hX XP.keeps q1074 (Nat.le_of_ble_eq_true rfl) (Nat.le_of_ble_eq_true rfl) (Nat.zero_le _) (Nat.zero_le _) (Nat.le_of_ble_eq_true rfl) dX0_firstAt_11 14 rfl h (fun r11 hb11 h => ?_)
  refine jj_if_eq hX dX0_firstAt_14 26 17 (by decide) rfl (fun c14 => ?_) (fun c14 => ?_)
  · have h := h.1 c14
    refine jj_iconst hX dX0_firstAt_26 ci_m1 27 rfl ?_
    refine kxw0_answer hX hY k5 q1077 (Nat.le_of_ble_eq_true rfl) (Nat.le_of_ble_eq_true rfl) (Nat.zero_le _) (Nat.zero_le _) (Nat.le_of_ble_eq_true rfl) dX0_firstAt_27 30 rfl h (fun r27 u27 h => ?_)
    exact jj_reti (post := (fun (r : Int32) (w : XS) => Post r w)) (u := u27) hX dX0_firstAt_30 (Nat.le_refl 0) (Nat.le_refl 0) jx_hB h
  · have h := h.2 c14
    refine jj_aload_n hX dX0_firstAt_17 0 rfl 18 rfl ?_
    refine xg0_18 hX hY k5 dX0_firstAt_18 q429 21 rfl ?_
    refine jj_iload_n hX dX0_firstAt_21 1 rfl 22 rfl ?_
    obtain ⟨b22, g22, h⟩ := h
    refine jj_st (st2 := [.int x1, .ref b22, .ref x0]) (by rw [va_rf_some g22]) ?_
    obtain ⟨n22, k22, h⟩ := h
    obtain ⟨hi22, h⟩ := h
    refine jx_iald hX hY.1 k22 _ rfl hi22 dX0_firstAt_22 23 rfl ?_
    refine jj_goto hX dX0_firstAt_23 27 (by decide) ?_
    refine kxw0_answer hX hY k5 q1077 (Nat.le_of_ble_eq_true rfl) (Nat.le_of_ble_eq_true rfl) (Nat.zero_le _) (Nat.zero_le _) (Nat.le_of_ble_eq_true rfl) dX0_firstAt_27 30 rfl h (fun r27 u27 h => ?_)
    exact jj_reti (post := (fun (r : Int32) (w : XS) => Post r w)) (u := u27) hX dX0_firstAt_30 (Nat.le_refl 0) (Nat.le_refl 0) jx_hB h
theorem hd_xw0_firstAt : yX0_firstAt.cls ≠ "java/lang/invoke/MethodHandle" ∧ yX0_firstAt.cls ≠ "java/lang/invoke/VarHandle" ∧ (parseMethodDescriptor yX0_firstAt.desc).map (fun d => d.parameters.length) = some 1 := by decide +kernel
theorem kxw0_firstAt {X : JC} {A : Nat → Prop} {Q : State → Prop} {nL k n pc : Nat} {lv : List (Nat × Value)} {st : List Value} {own : String} {cc : ByteArray} {ret : Option FieldType} {F LL mc ms ix : Nat} {D : va_G} {dA aK aV : Nat → Nat} {K : XK} {u : XS} {x0 : Nat} {x1 : Int32} {Post : Int32 → XS → Prop} (hX : JX X own cc nL ret F LL mc ms) (hY : JY X D dA aK aV A) (h1a : K x0 = (1, 0)) (hlk : (Cond.methodLink own ix yX0_firstAt) ∈ lw_all) (hF : 1 + 1 ≤ F) (hL : 8 + (2 + 11) + 25 ≤ LL) (hk : k ≤ mc) (hk2 : n ≤ ms) (hw : (st.map fun v => v.category).sum ≤ 8) (d : decode cc pc = .ok (.invokevirtual ix, 3)) (q : Nat) (hq : pc + 3 = q) (h : xw0_firstAt x0 x1 K u  Post) (kk : ∀ (r : Int32) (u2 : XS), Post r u2 → JJ X A Q nL (XP D dA A K u2) k n q lv (.int r :: st)) : JJ X A Q nL (XP D dA A K u) k n pc lv (.int x1 :: .ref x0 :: st) :=
  jx_callVi (na := 1) (As := [.int x1]) hX hY jf0 h1a (fun sz => mxw0_firstAt (jj_l X) hY.2.2.2.2 D dA aK aV x0 x1 K u  Post h sz) hlk q1341 q1342 q120 q1343 ⟨rfl, hd_xw0_firstAt⟩ rfl rfl hw hF hL hk hk2 d q hq kk
theorem knxw0_firstAt {X : JC} {A : Nat → Prop} {Q : State → Prop} {nL k n pc : Nat} {lv : List (Nat × Value)} {st : List Value} {own : String} {cc : ByteArray} {ret : Option FieldType} {F LL mc ms ix : Nat} {D : va_G} {dA aK aV : Nat → Nat} {K : XK} {u : XS} {x0 : Nat} {x1 : Int32} {host : String} {Post : Int32 → XS → Prop} (hX : JX X own cc nL ret F LL mc ms) (hY : JY X D dA aK aV A) (h1a : K x0 = (1, 0)) (hlk : (Cond.methodLinkNest own ix yX0_firstAt host) ∈ jx_nest) (hF : 1 + 1 ≤ F) (hL : 8 + (2 + 11) + 25 ≤ LL) (hk : k ≤ mc) (hk2 : n ≤ ms) (hw : (st.map fun v => v.category).sum ≤ 8) (d : decode cc pc = .ok (.invokevirtual ix, 3)) (q : Nat) (hq : pc + 3 = q) (h : xw0_firstAt x0 x1 K u  Post) (kk : ∀ (r : Int32) (u2 : XS), Post r u2 → JJ X A Q nL (XP D dA A K u2) k n q lv (.int r :: st)) : JJ X A Q nL (XP D dA A K u) k n pc lv (.int x1 :: .ref x0 :: st) :=
  jx_callNi (na := 1) (As := [.int x1]) hX hY jf0 h1a (fun sz => mxw0_firstAt (jj_l X) hY.2.2.2.2 D dA aK aV x0 x1 K u  Post h sz) hlk q1341 q1342 q120 q1343 hd_xw0_firstAt rfl rfl hw hF hL hk hk2 d q hq kk
/-- RaisedPress.letters()I -/
def xw0_letters (x0 : Nat) (K : XK) (u : XS) (Post : Int32 → XS → Prop) : Prop :=
  K x0 = (1, 0) ∧
  (¬ (xi u x0 19) = 0 →
    xw0_answer x0 (xi u x0 20) K u (fun r16 u16 =>
      Post r16 u16)) ∧
  ((xi u x0 19) = 0 →
    xw0_answer x0 (-1 : Int32) K u (fun r16 u16 =>
      Post r16 u16))
set_option maxHeartbeats 4000000 in
set_option maxRecDepth 100000 in
theorem mxw0_letters (l : Launch) (hfl : l.stackTraces = false) (D : va_G) (dA aK aV : Nat → Nat) (x0 : Nat) (K : XK) (u : XS) (Post : Int32 → XS → Prop) (h : xw0_letters x0 K u Post) (sz : Nat) : Met l yX0_letters (ws_ yX0_letters cX0_letters 1 (Option.some Jvm.ClassFile.FieldType.int)) (jx_rm 1 21 0 0) (jx_Pc D dA aK aV K u sz [.ref x0]) (va_Qi (fun (r : Int32) (w : XS) => Post r w) (jx_B D dA K) (AX K sz)) 0 0 (AX K sz) := by
  refine jx_start hfl [.ref x0] [(0, .ref x0)] (by decide) (Nat.le_of_ble_eq_true rfl) rfl (fun X hX hY hin => ?_)
  unfold xw0_letters at h
  refine jj_aload_n hX dX0_letters_0 0 rfl 1 rfl ?_
  refine jj_aload_n hX dX0_letters_1 0 rfl 2 rfl ?_
  obtain ⟨k2, h⟩ := h
  refine xg0_19 hX hY k2 dX0_letters_2 q430 5 rfl ?_
  refine jj_if_ne hX dX0_letters_5 12 8 (by decide) rfl (fun c5 => ?_) (fun c5 => ?_)
  · have h := h.1 c5
    refine jj_aload_n hX dX0_letters_12 0 rfl 13 rfl ?_
    refine xg0_20 hX hY k2 dX0_letters_13 q431 16 rfl ?_
    refine kxw0_answer hX hY k2 q1077 (Nat.le_of_ble_eq_true rfl) (Nat.le_of_ble_eq_true rfl) (Nat.zero_le _) (Nat.zero_le _) (Nat.le_of_ble_eq_true rfl) dX0_letters_16 19 rfl h (fun r16 u16 h => ?_)
    exact jj_reti (post := (fun (r : Int32) (w : XS) => Post r w)) (u := u16) hX dX0_letters_19 (Nat.le_refl 0) (Nat.le_refl 0) jx_hB h
  · have h := h.2 c5
    refine jj_iconst hX dX0_letters_8 ci_m1 9 rfl ?_
    refine jj_goto hX dX0_letters_9 16 (by decide) ?_
    refine kxw0_answer hX hY k2 q1077 (Nat.le_of_ble_eq_true rfl) (Nat.le_of_ble_eq_true rfl) (Nat.zero_le _) (Nat.zero_le _) (Nat.le_of_ble_eq_true rfl) dX0_letters_16 19 rfl h (fun r16 u16 h => ?_)
    exact jj_reti (post := (fun (r : Int32) (w : XS) => Post r w)) (u := u16) hX dX0_letters_19 (Nat.le_refl 0) (Nat.le_refl 0) jx_hB h
theorem hd_xw0_letters : yX0_letters.cls ≠ "java/lang/invoke/MethodHandle" ∧ yX0_letters.cls ≠ "java/lang/invoke/VarHandle" ∧ (parseMethodDescriptor yX0_letters.desc).map (fun d => d.parameters.length) = some 0 := by decide +kernel
theorem kxw0_letters {X : JC} {A : Nat → Prop} {Q : State → Prop} {nL k n pc : Nat} {lv : List (Nat × Value)} {st : List Value} {own : String} {cc : ByteArray} {ret : Option FieldType} {F LL mc ms ix : Nat} {D : va_G} {dA aK aV : Nat → Nat} {K : XK} {u : XS} {x0 : Nat} {Post : Int32 → XS → Prop} (hX : JX X own cc nL ret F LL mc ms) (hY : JY X D dA aK aV A) (h1a : K x0 = (1, 0)) (hlk : (Cond.methodLink own ix yX0_letters) ∈ lw_all) (hF : 1 + 1 ≤ F) (hL : 8 + (1 + 11) + 21 ≤ LL) (hk : k ≤ mc) (hk2 : n ≤ ms) (hw : (st.map fun v => v.category).sum ≤ 8) (d : decode cc pc = .ok (.invokevirtual ix, 3)) (q : Nat) (hq : pc + 3 = q) (h : xw0_letters x0 K u  Post) (kk : ∀ (r : Int32) (u2 : XS), Post r u2 → JJ X A Q nL (XP D dA A K u2) k n q lv (.int r :: st)) : JJ X A Q nL (XP D dA A K u) k n pc lv (.ref x0 :: st) :=
  jx_callVi (na := 0) (As := []) hX hY jf0 h1a (fun sz => mxw0_letters (jj_l X) hY.2.2.2.2 D dA aK aV x0 K u  Post h sz) hlk q1345 q1346 q120 q1347 ⟨rfl, hd_xw0_letters⟩ rfl rfl hw hF hL hk hk2 d q hq kk
theorem knxw0_letters {X : JC} {A : Nat → Prop} {Q : State → Prop} {nL k n pc : Nat} {lv : List (Nat × Value)} {st : List Value} {own : String} {cc : ByteArray} {ret : Option FieldType} {F LL mc ms ix : Nat} {D : va_G} {dA aK aV : Nat → Nat} {K : XK} {u : XS} {x0 : Nat} {host : String} {Post : Int32 → XS → Prop} (hX : JX X own cc nL ret F LL mc ms) (hY : JY X D dA aK aV A) (h1a : K x0 = (1, 0)) (hlk : (Cond.methodLinkNest own ix yX0_letters host) ∈ jx_nest) (hF : 1 + 1 ≤ F) (hL : 8 + (1 + 11) + 21 ≤ LL) (hk : k ≤ mc) (hk2 : n ≤ ms) (hw : (st.map fun v => v.category).sum ≤ 8) (d : decode cc pc = .ok (.invokevirtual ix, 3)) (q : Nat) (hq : pc + 3 = q) (h : xw0_letters x0 K u  Post) (kk : ∀ (r : Int32) (u2 : XS), Post r u2 → JJ X A Q nL (XP D dA A K u2) k n q lv (.int r :: st)) : JJ X A Q nL (XP D dA A K u) k n pc lv (.ref x0 :: st) :=
  jx_callNi (na := 0) (As := []) hX hY jf0 h1a (fun sz => mxw0_letters (jj_l X) hY.2.2.2.2 D dA aK aV x0 K u  Post h sz) hlk q1345 q1346 q120 q1347 hd_xw0_letters rfl rfl hw hF hL hk hk2 d q hq kk
def xw0_isTrue_L40_S (Post : Int32 → XK → XS → Prop) (mc ms : Nat) (x0 : Nat) (x2 : Int32) (R : Int32 → XK → XS → Nat → Nat → Prop) (x3 : Int32) (K : XK) (u : XS) (c s : Nat) : Prop :=
  (x2 ≤ x3 →
    Post (1 : Int32) K u) ∧
  (¬ x2 ≤ x3 →
    K x0 = (1, 0) ∧
    ∃ m46 w46, (c + m46) ≤ mc ∧ (s + w46) ≤ ms ∧ xw0_setter x0 K u m46 w46 (fun r46 K46 u46 =>
      K46 r46 = (1, 6) ∧
      ∃ b53, (xr u46 r46 8) = some b53 ∧
      ∃ n53, K46 b53 = (2, n53) ∧
      vp_in x3 n53 ∧
      ∃ b59, (xr u46 x0 15) = some b59 ∧
      ∃ n59, K46 b59 = (2, n59) ∧
      vp_in x3 n59 ∧
      ((xi u46 b53 x3.toNatClampNeg) = (xi u46 b59 x3.toNatClampNeg) →
        ∀ v65 : Int32, v65 = x3 + (1 : Int32) →
        R v65 K46 u46 (c + m46) (s + w46)) ∧
      (¬ (xi u46 b53 x3.toNatClampNeg) = (xi u46 b59 x3.toNatClampNeg) →
        Post (0 : Int32) K46 u46)))
def xw0_isTrue_L40 (Post : Int32 → XK → XS → Prop) (mc ms : Nat) (x0 : Nat) (x2 : Int32) : Nat → Int32 → XK → XS → Nat → Nat → Prop
  | 0 => fun _ _ _ _ _ => False
  | n + 1 => fun x3 K u c s => xw0_isTrue_L40_S Post mc ms x0 x2 (xw0_isTrue_L40 Post mc ms x0 x2 n) x3 K u c s
/-- RaisedPress.isTrue(II)Z -/
def xw0_isTrue (x0 : Nat) (x1 : Int32) (x2 : Int32) (K : XK) (u : XS) (mc ms : Nat) (Post : Int32 → XK → XS → Prop) : Prop :=
  K x0 = (1, 0) ∧
  ∃ m1 w1, m1 ≤ mc ∧ w1 ≤ ms ∧ xw0_setter x0 K u m1 w1 (fun r1 K1 u1 =>
    ∃ b13, (xr u1 x0 10) = some b13 ∧
    K1 b13 = (1, 4) ∧
    ∃ b16, (xr u1 x0 21) = some b16 ∧
    K1 r1 = (1, 6) ∧
    ∃ m16 w16, (m1 + m16) ≤ mc ∧ (w1 + w16) ≤ ms ∧ xw6_all r1 b16 x1 (xi u1 b13 1) K1 u1 m16 w16 (fun K16 u16 =>
      ∃ m26 w26, ((m1 + m16) + m26) ≤ mc ∧ ((w1 + w16) + w26) ≤ ms ∧ xw0_setter x0 K16 u16 m26 w26 (fun r26 K26 u26 =>
        K26 r26 = (1, 6) ∧
        ((xi u26 r26 4) = x2 →
          ∃ n, xw0_isTrue_L40 Post mc ms x0 x2 n (0 : Int32) K26 u26 ((m1 + m16) + m26) ((w1 + w16) + w26)) ∧
        (¬ (xi u26 r26 4) = x2 →
          Post (0 : Int32) K26 u26))) (fun q16 K16 u16 =>
      Post (0 : Int32) K16 u16))
set_option maxHeartbeats 4000000 in
set_option maxRecDepth 100000 in
theorem txw0_isTrue_L40 {X : JC} {D : va_G} {dA aK aV : Nat → Nat} {sz : Nat} {K0 : XK} {mc ms : Nat} {Post : Int32 → XK → XS → Prop} {x0 : Nat} {x2 : Int32} (hX : JX X yX0_isTrue.cls cX0_isTrue 4 (Option.some Jvm.ClassFile.FieldType.boolean) 6 141 mc ms) (hY : JY X D dA aK aV (AX K0 sz)) (hE : JE X [(0, 19, 22, 31)]) : ∀ (n : Nat) (x3 : Int32) (K : XK) (u : XS) (c s : Nat) (hl : XLe K0 K) (hc : c ≤ mc) (hs : s ≤ ms), xw0_isTrue_L40 Post mc ms x0 x2 n x3 K u c s → JJ X (AX K0 sz) (jj_Q X (va_Qi (fun (r : Int32) (w : XK × XS) => Post r w.1 w.2 ∧ jj_z r) (jx_BA D dA K0 sz) (AX K0 sz)) mc ms (AX K0 sz)) 4 (XP D dA (AX K0 sz) K u) c s 40 [(0, .ref x0), (2, .int x2), (3, .int x3)] [] := by
  intro n
  induction n with
  | zero =>
    intro x3 K u c s hl hc hs h
    exact h.elim
  | succ n ih =>
    intro x3 K u c s hl hc hs h
    have h : xw0_isTrue_L40_S Post mc ms x0 x2 (xw0_isTrue_L40 Post mc ms x0 x2 n) x3 K u c s := h
    unfold xw0_isTrue_L40_S at h
    refine jj_iload_n hX dX0_isTrue_40 2 rfl 41 rfl ?_
    refine jj_iload_n hX dX0_isTrue_41 1 rfl 42 rfl ?_
    refine jj_icmp_ge hX dX0_isTrue_42 71 45 (by decide) rfl (fun c42 => ?_) (fun c42 => ?_)
    · have h := h.1 c42
      refine jj_iconst hX dX0_isTrue_71 ci_1 72 rfl ?_
      exact jj_retz (post := (fun (r : Int32) (w : XK × XS) => Post r w.1 w.2)) (u := (K, u)) hX dX0_isTrue_72 hc hs (jx_hBA hl) jj_z1 h
    · have h := h.2 c42
      refine jj_aload_n hX dX0_isTrue_45 0 rfl 46 rfl ?_
      obtain ⟨k46, h⟩ := h
      obtain ⟨m46, w46, hc46, hs46, h⟩ := h
      refine kxw0_setter hX hY k46 q875 (Nat.le_of_ble_eq_true rfl) (Nat.le_of_ble_eq_true rfl) hc46 hs46 (Nat.le_of_ble_eq_true rfl) dX0_isTrue_46 49 rfl h (fun r46 K46 u46 hle46 h => ?_)
      have k46_1 := hle46.at k46 (by simp)
      have hl46 := hl.tr hle46
      refine jj_cs (k2 := (c + m46)) (n2 := (s + w46)) (by simp) (by simp) ?_
      obtain ⟨k49, h⟩ := h
      refine xgn6_8 hX hY k49 dX0_isTrue_49 nq348 52 rfl ?_
      refine jj_iload_n hX dX0_isTrue_52 2 rfl 53 rfl ?_
      obtain ⟨b53, g53, h⟩ := h
      refine jj_st (st2 := [.int x3, .ref b53]) (by rw [va_rf_some g53]) ?_
      obtain ⟨n53, k53, h⟩ := h
      obtain ⟨hi53, h⟩ := h
      refine jx_iald hX hY.1 k53 _ rfl hi53 dX0_isTrue_53 54 rfl ?_
      refine jj_aload_n hX dX0_isTrue_54 0 rfl 55 rfl ?_
      refine xg0_15 hX hY k46_1 dX0_isTrue_55 q426 58 rfl ?_
      refine jj_iload_n hX dX0_isTrue_58 2 rfl 59 rfl ?_
      obtain ⟨b59, g59, h⟩ := h
      refine jj_st (st2 := [.int x3, .ref b59, .int (xi u46 b53 x3.toNatClampNeg)]) (by rw [va_rf_some g59]) ?_
      obtain ⟨n59, k59, h⟩ := h
      obtain ⟨hi59, h⟩ := h
      refine jx_iald hX hY.1 k59 _ rfl hi59 dX0_isTrue_59 60 rfl ?_
      refine jj_icmp_eq hX dX0_isTrue_60 65 63 (by decide) rfl (fun c60 => ?_) (fun c60 => ?_)
      · have h := h.1 c60
        obtain ⟨v65, e65⟩ : ∃ y : Int32, y = x3 + (1 : Int32) := ⟨_, rfl⟩
        have h := h v65 e65
        refine jj_iinc (v := v65) (lv2 := [(0, .ref x0), (2, .int x2), (3, .int v65)]) hX dX0_isTrue_65 2 rfl (by rw [e65, ci_1]) (Nat.le_of_ble_eq_true rfl) [1, 2, 0] rfl 68 rfl ?_
        refine jj_goto hX dX0_isTrue_68 40 (by decide) ?_
        exact ih _ _ _ _ _ hl46 hc46 hs46 h
      · have h := h.2 c60
        refine jj_iconst hX dX0_isTrue_63 ci_0 64 rfl ?_
        exact jj_retz (post := (fun (r : Int32) (w : XK × XS) => Post r w.1 w.2)) (u := (K46, u46)) hX dX0_isTrue_64 hc46 hs46 (jx_hBA hl46) jj_z0 h
set_option maxHeartbeats 4000000 in
set_option maxRecDepth 100000 in
theorem mxw0_isTrue (l : Launch) (hfl : l.stackTraces = false) (D : va_G) (dA aK aV : Nat → Nat) (x0 : Nat) (x1 : Int32) (x2 : Int32) (K : XK) (u : XS) (mc ms : Nat) (Post : Int32 → XK → XS → Prop) (h : xw0_isTrue x0 x1 x2 K u mc ms Post) (sz : Nat) : Met l yX0_isTrue (wsW_ yX0_isTrue cX0_isTrue 4 (Option.some Jvm.ClassFile.FieldType.boolean) [(0, 19, 22, 31)]) (jx_rm 6 141 mc ms) (jx_Pc D dA aK aV K u sz [.ref x0, .int x1, .int x2]) (va_Qi (fun (r : Int32) (w : XK × XS) => Post r w.1 w.2 ∧ jj_z r) (jx_BA D dA K sz) (AX K sz)) mc ms (AX K sz) := by
  refine jx_startW hfl [.ref x0, .int x1, .int x2] [(0, .ref x0), (1, .int x1), (2, .int x2)] (by decide) (Nat.le_of_ble_eq_true rfl) rfl (fun X hX hY hE => ?_)
  unfold xw0_isTrue at h
  refine jj_aload_n hX dX0_isTrue_0 0 rfl 1 rfl ?_
  obtain ⟨k1, h⟩ := h
  obtain ⟨m1, w1, hc1, hs1, h⟩ := h
  refine kxw0_setter hX hY k1 q875 (Nat.le_of_ble_eq_true rfl) (Nat.le_of_ble_eq_true rfl) (by simpa using hc1) (by simpa using hs1) (Nat.le_of_ble_eq_true rfl) dX0_isTrue_1 4 rfl h (fun r1 K1 u1 hle1 h => ?_)
  have k1_1 := hle1.at k1 (by simp)
  have hl1 := XLe.rf.tr hle1
  refine jj_cs (k2 := m1) (n2 := w1) (by simp) (by simp) ?_
  refine jj_aload_n hX dX0_isTrue_4 0 rfl 5 rfl ?_
  refine xg0_21 hX hY k1_1 dX0_isTrue_5 q432 8 rfl ?_
  refine jj_iload_n hX dX0_isTrue_8 1 rfl 9 rfl ?_
  refine jj_aload_n hX dX0_isTrue_9 0 rfl 10 rfl ?_
  refine xg0_10 hX hY k1_1 dX0_isTrue_10 q421 13 rfl ?_
  obtain ⟨b13, g13, h⟩ := h
  refine jj_st (st2 := [.ref b13, .int x1, va_rf (xr u1 x0 21), .ref r1]) (by rw [va_rf_some g13]) ?_
  obtain ⟨k13, h⟩ := h
  refine xgn4_1 hX hY k13 dX0_isTrue_13 nq317 16 rfl ?_
  obtain ⟨b16, g16, h⟩ := h
  refine jj_st (st2 := [.int (xi u1 b13 1), .int x1, .ref b16, .ref r1]) (by rw [va_rf_some g16]) ?_
  obtain ⟨k16, h⟩ := h
  obtain ⟨m16, w16, hc16, hs16, h⟩ := h
  refine kxw6_all hX hY k16 q883 (Nat.le_of_ble_eq_true rfl) (Nat.le_of_ble_eq_true rfl) hc16 hs16 (Nat.le_of_ble_eq_true rfl) dX0_isTrue_16 19 rfl h (fun q16 K16 u16 hle16 h => jt_cs (k2 := (m1 + m16)) (n2 := (w1 + w16)) (by simp) (by simp) ?_) (fun K16 u16 hle16 h => jj_cs (k2 := (m1 + m16)) (n2 := (w1 + w16)) (by simp) (by simp) ?_)
  · have k16_1 := hle16.at k1_1 (by simp)
    have k16_2 := hle16.at k13 (by simp)
    have k16_3 := hle16.at k16 (by simp)
    have hl16 := hl1.tr hle16
    refine jt_catch0 (nm := "RaisedPress$Bad") hX hY.2.1 hE rfl (by decide) q169 nq171 ?_
    refine jj_astore_n (lv2 := [(3, .ref q16)]) hX dX0_isTrue_22 (Nat.le_of_ble_eq_true rfl) [0] rfl 23 rfl ?_
    refine jj_iconst hX dX0_isTrue_23 ci_0 24 rfl ?_
    exact jj_retz (post := (fun (r : Int32) (w : XK × XS) => Post r w.1 w.2)) (u := (K16, u16)) hX dX0_isTrue_24 hc16 hs16 (jx_hBA hl16) jj_z0 h
  · have k16_1 := hle16.at k1_1 (by simp)
    have k16_2 := hle16.at k13 (by simp)
    have k16_3 := hle16.at k16 (by simp)
    have hl16 := hl1.tr hle16
    refine jj_goto hX dX0_isTrue_19 25 (by decide) ?_
    refine jj_aload_n hX dX0_isTrue_25 0 rfl 26 rfl ?_
    obtain ⟨m26, w26, hc26, hs26, h⟩ := h
    refine kxw0_setter hX hY k16_1 q875 (Nat.le_of_ble_eq_true rfl) (Nat.le_of_ble_eq_true rfl) hc26 hs26 (Nat.le_of_ble_eq_true rfl) dX0_isTrue_26 29 rfl h (fun r26 K26 u26 hle26 h => ?_)
    have k26 := hle26.at k16_1 (by simp)
    have k26_1 := hle26.at k16_2 (by simp)
    have k26_2 := hle26.at k16_3 (by simp)
    have hl26 := hl16.tr hle26
    refine jj_cs (k2 := ((m1 + m16) + m26)) (n2 := ((w1 + w16) + w26)) (by simp) (by simp) ?_
    obtain ⟨k29, h⟩ := h
    refine xgn6_4 hX hY k29 dX0_isTrue_29 nq343 32 rfl ?_
    refine jj_iload_n hX dX0_isTrue_32 2 rfl 33 rfl ?_
    refine jj_icmp_eq hX dX0_isTrue_33 38 36 (by decide) rfl (fun c33 => ?_) (fun c33 => ?_)
    · have h := h.1 c33
      refine jj_iconst hX dX0_isTrue_38 ci_0 39 rfl ?_
      refine jj_istore_n (lv2 := [(0, .ref x0), (2, .int x2), (3, .int (0 : Int32))]) hX dX0_isTrue_39 (Nat.le_of_ble_eq_true rfl) [1, 3, 0] rfl 40 rfl ?_
      obtain ⟨n9, h⟩ := h
      exact txw0_isTrue_L40 hX hY hE n9 _ _ _ _ _ hl26 hc26 hs26 h
    · have h := h.2 c33
      refine jj_iconst hX dX0_isTrue_36 ci_0 37 rfl ?_
      exact jj_retz (post := (fun (r : Int32) (w : XK × XS) => Post r w.1 w.2)) (u := (K26, u26)) hX dX0_isTrue_37 hc26 hs26 (jx_hBA hl26) jj_z0 h
theorem hd_xw0_isTrue : yX0_isTrue.cls ≠ "java/lang/invoke/MethodHandle" ∧ yX0_isTrue.cls ≠ "java/lang/invoke/VarHandle" ∧ (parseMethodDescriptor yX0_isTrue.desc).map (fun d => d.parameters.length) = some 2 := by decide +kernel
theorem kxw0_isTrue {X : JC} {A : Nat → Prop} {Q : State → Prop} {nL k n pc : Nat} {lv : List (Nat × Value)} {st : List Value} {own : String} {cc : ByteArray} {ret : Option FieldType} {F LL mc ms ix mc2 ms2 : Nat} {D : va_G} {dA aK aV : Nat → Nat} {K : XK} {u : XS} {x0 : Nat} {x1 : Int32} {x2 : Int32} {Post : Int32 → XK → XS → Prop} (hX : JX X own cc nL ret F LL mc ms) (hY : JY X D dA aK aV A) (h1a : K x0 = (1, 0)) (hlk : (Cond.methodLink own ix yX0_isTrue) ∈ lw_all) (hF : 6 + 1 ≤ F) (hL : 8 + (4 + 11) + 141 ≤ LL) (hk : k + mc2 ≤ mc) (hk2 : n + ms2 ≤ ms) (hw : (st.map fun v => v.category).sum ≤ 8) (d : decode cc pc = .ok (.invokevirtual ix, 3)) (q : Nat) (hq : pc + 3 = q) (h : xw0_isTrue x0 x1 x2 K u mc2 ms2 Post) (kk : ∀ (r : Int32) (K2 : XK) (u2 : XS), XLe K K2 → jj_z r → Post r K2 u2 → JJ X A Q nL (XP D dA A K2 u2) (k + mc2) (n + ms2) q lv (.int r :: st)) : JJ X A Q nL (XP D dA A K u) k n pc lv (.int x2 :: .int x1 :: .ref x0 :: st) :=
  jx_callWVz (na := 2) (As := [.int x1, .int x2]) hX hY jf0 h1a (fun sz => mxw0_isTrue (jj_l X) hY.2.2.2.2 D dA aK aV x0 x1 x2 K u mc2 ms2 Post h sz) hlk q1358 qs50 q120 q1359 ⟨rfl, hd_xw0_isTrue⟩ rfl rfl hw hF hL hk hk2 d q hq kk
theorem hd_xw0_truthsFrom : yX0_truthsFrom.cls ≠ "java/lang/invoke/MethodHandle" ∧ yX0_truthsFrom.cls ≠ "java/lang/invoke/VarHandle" ∧ (parseMethodDescriptor yX0_truthsFrom.desc).map (fun d => d.parameters.length) = some 3 := by decide +kernel
theorem rxw0_truthsFrom {X : JC} {A : Nat → Prop} {Q : State → Prop} {nL k n pc f9 l9 : Nat} {lv : List (Nat × Value)} {st : List Value} {own : String} {cc : ByteArray} {ret : Option FieldType} {mc ms ix mc2 ms2 : Nat} {D : va_G} {dA aK aV : Nat → Nat} {K : XK} {u : XS} {x0 : Nat} {x1 : Int32} {x2 : Int32} {x3 : Int32} {RR : Nat → Int32 → Int32 → Int32 → XK → XS → Nat → Nat → (Int32 → XK → XS → Prop) → Prop} {Post : Int32 → XK → XS → Prop} (hX : JX X own cc nL ret (f9 + 7) (l9 + 164) mc ms) (hY : JY X D dA aK aV A) (hRR : ∀ (x0 : Nat) (x1 : Int32) (x2 : Int32) (x3 : Int32) (K : XK) (u : XS) (mc ms : Nat) (Post : Int32 → XK → XS → Prop), RR x0 x1 x2 x3 K u mc ms Post → ∀ sz, Met (jj_l X) yX0_truthsFrom (ws_ yX0_truthsFrom cX0_truthsFrom 6 (Option.some Jvm.ClassFile.FieldType.int)) (jx_rm f9 l9 mc ms) (jx_Pc D dA aK aV K u sz [.ref x0, .int x1, .int x2, .int x3]) (va_Qi (fun (r : Int32) (w : XK × XS) => Post r w.1 w.2) (jx_BA D dA K sz) (AX K sz)) mc ms (AX K sz)) (h1a : K x0 = (1, 0)) (hlk : (Cond.methodLink own ix yX0_truthsFrom) ∈ lw_all) (hw : (st.map fun v => v.category).sum ≤ 8) (hk : k + mc2 ≤ mc) (hk2 : n + ms2 ≤ ms) (d : decode cc pc = .ok (.invokevirtual ix, 3)) (q : Nat) (hq : pc + 3 = q) (h : RR x0 x1 x2 x3 K u mc2 ms2 Post) (kk : ∀ (r : Int32) (K2 : XK) (u2 : XS), XLe K K2 → Post r K2 u2 → JJ X A Q nL (XP D dA A K2 u2) (k + mc2) (n + ms2) q lv (.int r :: st)) : JJ X A Q nL (XP D dA A K u) k n pc lv (.int x3 :: .int x2 :: .int x1 :: .ref x0 :: st) :=
  jx_callViA (na := 3) (As := [.int x1, .int x2, .int x3]) (post := Post) hX hY jf0 h1a (fun sz => hRR x0 x1 x2 x3 K u mc2 ms2 Post h sz) hlk q1354 qs49 q120 q1355 ⟨rfl, hd_xw0_truthsFrom⟩ rfl rfl hw (by omega) (by omega) hk hk2 d q hq kk
def xw0_truthsFrom_L26_S (RR : Nat → Int32 → Int32 → Int32 → XK → XS → Nat → Nat → (Int32 → XK → XS → Prop) → Prop) (Post : Int32 → XK → XS → Prop) (mc ms : Nat) (x0 : Nat) (x1 : Int32) (x2 : Int32) (x3 : Int32) (R : Int32 → Int32 → XK → XS → Nat → Nat → Prop) (x4 : Int32) (x5 : Int32) (K : XK) (u : XS) (c s : Nat) : Prop :=
  K x0 = (1, 0) ∧
  xw0_table x0 K u (fun r29 u29 =>
    K r29 = (1, 5) ∧
    ((xi u29 r29 1) ≤ x5 →
      Post x4 K u29) ∧
    (¬ (xi u29 r29 1) ≤ x5 →
      xw0_stands x0 x5 x1 x3 K u29 (fun r43 u43 =>
        (r43 = 0 →
          ∀ v134 : Int32, v134 = x5 + (1 : Int32) →
          R x4 v134 K u43 c s) ∧
        (¬ r43 = 0 →
          xw0_at x0 x5 K u43 (fun r57 u57 =>
            xRule K r57 ∧
            ∃ b63, (xr u57 r57 1) = some b63 ∧
            ∃ n63, K b63 = (2, n63) ∧
            ∃ b65, (xr u43 x0 17) = some b65 ∧
            ∃ n65, K b65 = (2, n65) ∧
            vp_in (x1 + (nI n63)) n65 ∧
            (¬ (xi u57 b65 (x1 + (nI n63)).toNatClampNeg) = 0 →
              xw0_at x0 x5 K u57 (fun r75 u75 =>
                xRule K r75 ∧
                xw0_at x0 x5 K u75 (fun r90 u90 =>
                  xRule K r90 ∧
                  ∃ b96, (xr u90 r90 0) = some b96 ∧
                  ∃ n96, K b96 = (3, n96) ∧
                  ∃ b97, (xr u75 x0 21) = some b97 ∧
                  ∃ b97_1, (xr u75 r75 0) = some b97_1 ∧
                  ∃ n97, K b97_1 = (3, n97) ∧
                  ∃ n97_1, K b97 = (3, n97_1) ∧
                  ¬ (0 : Int32) < 0 ∧ ¬ x2 < 0 ∧ ¬ (nI n96) < 0 ∧ (0 : Int32).toNatClampNeg + (nI n96).toNatClampNeg ≤ n97 ∧ x2.toNatClampNeg + (nI n96).toNatClampNeg ≤ n97_1 ∧ ∀ u97 : XS, u97 = xcp u90 b97_1 (0 : Int32).toNatClampNeg b97 x2.toNatClampNeg (nI n96).toNatClampNeg →
                  xw0_at x0 x5 K u97 (fun r107 u107 =>
                    xRule K r107 ∧
                    ∃ b113, (xr u107 r107 1) = some b113 ∧
                    ∃ n113, K b113 = (2, n113) ∧
                    xw0_at x0 x5 K u107 (fun r119 u119 =>
                      xRule K r119 ∧
                      ∃ b125, (xr u119 r119 0) = some b125 ∧
                      ∃ n125, K b125 = (3, n125) ∧
                      ∃ m128 w128, (c + m128) ≤ mc ∧ (s + w128) ≤ ms ∧ RR x0 (x1 + (nI n113)) (x2 + (nI n125)) x3 K u119 m128 w128 (fun r128 K128 u128 =>
                        ∀ v132 : Int32, v132 = (x4 + r128) →
                        ∀ v134 : Int32, v134 = x5 + (1 : Int32) →
                        R v132 v134 K128 u128 (c + m128) (s + w128))))))) ∧
            ((xi u57 b65 (x1 + (nI n63)).toNatClampNeg) = 0 →
              ∀ v134 : Int32, v134 = x5 + (1 : Int32) →
              R x4 v134 K u57 c s))))))
def xw0_truthsFrom_L26 (RR : Nat → Int32 → Int32 → Int32 → XK → XS → Nat → Nat → (Int32 → XK → XS → Prop) → Prop) (Post : Int32 → XK → XS → Prop) (mc ms : Nat) (x0 : Nat) (x1 : Int32) (x2 : Int32) (x3 : Int32) : Nat → Int32 → Int32 → XK → XS → Nat → Nat → Prop
  | 0 => fun _ _ _ _ _ _ => False
  | n + 1 => fun x4 x5 K u c s => xw0_truthsFrom_L26_S RR Post mc ms x0 x1 x2 x3 (xw0_truthsFrom_L26 RR Post mc ms x0 x1 x2 x3 n) x4 x5 K u c s
/-- RaisedPress.truthsFrom(III)I -/
def xw0_truthsFrom_S (RR : Nat → Int32 → Int32 → Int32 → XK → XS → Nat → Nat → (Int32 → XK → XS → Prop) → Prop) (x0 : Nat) (x1 : Int32) (x2 : Int32) (x3 : Int32) (K : XK) (u : XS) (mc ms : Nat) (Post : Int32 → XK → XS → Prop) : Prop :=
  (¬ x1 = x3 →
    ∃ n, xw0_truthsFrom_L26 RR Post mc ms x0 x1 x2 x3 n (0 : Int32) (0 : Int32) K u 0 0) ∧
  (x1 = x3 →
    K x0 = (1, 0) ∧
    ∃ m8 w8, m8 ≤ mc ∧ w8 ≤ ms ∧ xw0_isTrue x0 x2 x3 K u m8 w8 (fun r8 K8 u8 =>
      (r8 = 0 →
        Post (0 : Int32) K8 u8) ∧
      (¬ r8 = 0 →
        Post (1 : Int32) K8 u8)))
def xw0_truthsFrom : Nat → Nat → Int32 → Int32 → Int32 → XK → XS → Nat → Nat → (Int32 → XK → XS → Prop) → Prop
  | 0 => fun _ _ _ _ _ _ _ _ _ => False
  | z + 1 => fun x0 x1 x2 x3 K u mc ms Post => xw0_truthsFrom_S (xw0_truthsFrom z) x0 x1 x2 x3 K u mc ms Post
set_option maxHeartbeats 4000000 in
set_option maxRecDepth 100000 in
theorem txw0_truthsFrom_L26 {X : JC} {D : va_G} {dA aK aV : Nat → Nat} {sz : Nat} {K0 : XK} {mc ms : Nat} {f9 l9 : Nat} {RR : Nat → Int32 → Int32 → Int32 → XK → XS → Nat → Nat → (Int32 → XK → XS → Prop) → Prop} {Post : Int32 → XK → XS → Prop} {x0 : Nat} {x1 : Int32} {x2 : Int32} {x3 : Int32} (hX : JX X yX0_truthsFrom.cls cX0_truthsFrom 6 (Option.some Jvm.ClassFile.FieldType.int) (f9 + 7) (l9 + 164) mc ms) (hY : JY X D dA aK aV (AX K0 sz)) (hRR : ∀ (x0 : Nat) (x1 : Int32) (x2 : Int32) (x3 : Int32) (K : XK) (u : XS) (mc ms : Nat) (Post : Int32 → XK → XS → Prop), RR x0 x1 x2 x3 K u mc ms Post → ∀ sz, Met (jj_l X) yX0_truthsFrom (ws_ yX0_truthsFrom cX0_truthsFrom 6 (Option.some Jvm.ClassFile.FieldType.int)) (jx_rm f9 l9 mc ms) (jx_Pc D dA aK aV K u sz [.ref x0, .int x1, .int x2, .int x3]) (va_Qi (fun (r : Int32) (w : XK × XS) => Post r w.1 w.2) (jx_BA D dA K sz) (AX K sz)) mc ms (AX K sz)) : ∀ (n : Nat) (x4 : Int32) (x5 : Int32) (K : XK) (u : XS) (c s : Nat) (hl : XLe K0 K) (hc : c ≤ mc) (hs : s ≤ ms), xw0_truthsFrom_L26 RR Post mc ms x0 x1 x2 x3 n x4 x5 K u c s → JJ X (AX K0 sz) (jj_Q X (va_Qi (fun (r : Int32) (w : XK × XS) => Post r w.1 w.2) (jx_BA D dA K0 sz) (AX K0 sz)) mc ms (AX K0 sz)) 6 (XP D dA (AX K0 sz) K u) c s 26 [(0, .ref x0), (1, .int x1), (2, .int x2), (3, .int x3), (4, .int x4), (5, .int x5)] [] := by
  intro n
  induction n with
  | zero =>
    intro x4 x5 K u c s hl hc hs h
    exact h.elim
  | succ n ih =>
    intro x4 x5 K u c s hl hc hs h
    have h : xw0_truthsFrom_L26_S RR Post mc ms x0 x1 x2 x3 (xw0_truthsFrom_L26 RR Post mc ms x0 x1 x2 x3 n) x4 x5 K u c s := h
    unfold xw0_truthsFrom_L26_S at h
    refine jj_iload hX dX0_truthsFrom_26 5 rfl 28 rfl ?_
    refine jj_aload_n hX dX0_truthsFrom_28 0 rfl 29 rfl ?_
    obtain ⟨k29, h⟩ := h
    refine kxw0_table hX hY k29 q879 (by clear h; omega) (by clear h; omega) hc hs (Nat.le_of_ble_eq_true rfl) dX0_truthsFrom_29 32 rfl h (fun r29 u29 h => ?_)
    obtain ⟨k32, h⟩ := h
    refine xgn5_1 hX hY k32 dX0_truthsFrom_32 nq279 35 rfl ?_
    refine jj_icmp_ge hX dX0_truthsFrom_35 140 38 (by decide) rfl (fun c35 => ?_) (fun c35 => ?_)
    · have h := h.1 c35
      refine jj_iload hX dX0_truthsFrom_140 4 rfl 142 rfl ?_
      exact jj_reti (post := (fun (r : Int32) (w : XK × XS) => Post r w.1 w.2)) (u := (K, u29)) hX dX0_truthsFrom_142 hc hs (jx_hBA hl) h
    · have h := h.2 c35
      refine jj_aload_n hX dX0_truthsFrom_38 0 rfl 39 rfl ?_
      refine jj_iload hX dX0_truthsFrom_39 5 rfl 41 rfl ?_
      refine jj_iload_n hX dX0_truthsFrom_41 1 rfl 42 rfl ?_
      refine jj_iload_n hX dX0_truthsFrom_42 3 rfl 43 rfl ?_
      refine kxw0_stands hX hY k29 q1330 (by clear h; omega) (by clear h; omega) hc hs (Nat.le_of_ble_eq_true rfl) dX0_truthsFrom_43 46 rfl h (fun r43 u43 hb43 h => ?_)
      refine jj_if_eq hX dX0_truthsFrom_46 134 49 (by decide) rfl (fun c46 => ?_) (fun c46 => ?_)
      · have h := h.1 c46
        obtain ⟨v134, e134⟩ : ∃ y : Int32, y = x5 + (1 : Int32) := ⟨_, rfl⟩
        have h := h v134 e134
        refine jj_iinc (v := v134) (lv2 := [(0, .ref x0), (1, .int x1), (2, .int x2), (3, .int x3), (4, .int x4), (5, .int v134)]) hX dX0_truthsFrom_134 5 rfl (by rw [e134, ci_1]) (Nat.le_of_ble_eq_true rfl) [1, 2, 3, 4, 5, 0] rfl 137 rfl ?_
        refine jj_goto hX dX0_truthsFrom_137 26 (by decide) ?_
        exact ih _ _ _ _ _ _ hl hc hs h
      · have h := h.2 c46
        refine jj_aload_n hX dX0_truthsFrom_49 0 rfl 50 rfl ?_
        refine xg0_17 hX hY k29 dX0_truthsFrom_50 q428 53 rfl ?_
        refine jj_iload_n hX dX0_truthsFrom_53 1 rfl 54 rfl ?_
        refine jj_aload_n hX dX0_truthsFrom_54 0 rfl 55 rfl ?_
        refine jj_iload hX dX0_truthsFrom_55 5 rfl 57 rfl ?_
        refine kxw0_at hX hY k29 q1090 (by clear h; omega) (by clear h; omega) hc hs (by simp [jx_rfc, jx_c1, jx_c2, jx_c3, jx_c4]) dX0_truthsFrom_57 60 rfl h (fun r57 u57 h => ?_)
        obtain ⟨k60, h⟩ := h
        refine xgr_1 hX hY k60 dX0_truthsFrom_60 q777 63 rfl ?_
        obtain ⟨b63, g63, h⟩ := h
        refine jj_st (st2 := [.ref b63, .int x1, va_rf (xr u43 x0 17)]) (by rw [va_rf_some g63]) ?_
        obtain ⟨n63, k63, h⟩ := h
        refine jx_alen hX hY.1 k63 dX0_truthsFrom_63 64 rfl ?_
        refine jj_iadd hX dX0_truthsFrom_64 65 rfl ?_
        obtain ⟨b65, g65, h⟩ := h
        refine jj_st (st2 := [.int (x1 + (nI n63)), .ref b65]) (by rw [va_rf_some g65]) ?_
        obtain ⟨n65, k65, h⟩ := h
        obtain ⟨hi65, h⟩ := h
        refine jx_iald hX hY.1 k65 _ rfl hi65 dX0_truthsFrom_65 66 rfl ?_
        refine jj_if_ne hX dX0_truthsFrom_66 72 69 (by decide) rfl (fun c66 => ?_) (fun c66 => ?_)
        · have h := h.1 c66
          refine jj_aload_n hX dX0_truthsFrom_72 0 rfl 73 rfl ?_
          refine jj_iload hX dX0_truthsFrom_73 5 rfl 75 rfl ?_
          refine kxw0_at hX hY k29 q1090 (by clear h; omega) (by clear h; omega) hc hs (Nat.le_of_ble_eq_true rfl) dX0_truthsFrom_75 78 rfl h (fun r75 u75 h => ?_)
          obtain ⟨k78, h⟩ := h
          refine xgr_0 hX hY k78 dX0_truthsFrom_78 q774 81 rfl ?_
          refine jj_iconst hX dX0_truthsFrom_81 ci_0 82 rfl ?_
          refine jj_aload_n hX dX0_truthsFrom_82 0 rfl 83 rfl ?_
          refine xg0_21 hX hY k29 dX0_truthsFrom_83 q432 86 rfl ?_
          refine jj_iload_n hX dX0_truthsFrom_86 2 rfl 87 rfl ?_
          refine jj_aload_n hX dX0_truthsFrom_87 0 rfl 88 rfl ?_
          refine jj_iload hX dX0_truthsFrom_88 5 rfl 90 rfl ?_
          refine kxw0_at hX hY k29 q1090 (by clear h; omega) (by clear h; omega) hc hs (by simp [jx_rfc, jx_c1, jx_c2, jx_c3, jx_c4]) dX0_truthsFrom_90 93 rfl h (fun r90 u90 h => ?_)
          obtain ⟨k93, h⟩ := h
          refine xgr_0 hX hY k93 dX0_truthsFrom_93 q774 96 rfl ?_
          obtain ⟨b96, g96, h⟩ := h
          refine jj_st (st2 := [.ref b96, .int x2, va_rf (xr u75 x0 21), .int (0 : Int32), va_rf (xr u75 r75 0)]) (by rw [va_rf_some g96]) ?_
          obtain ⟨n96, k96, h⟩ := h
          refine jx_alen hX hY.1 k96 dX0_truthsFrom_96 97 rfl ?_
          obtain ⟨b97, g97, h⟩ := h
          refine jj_st (st2 := [.int (nI n96), .int x2, .ref b97, .int (0 : Int32), va_rf (xr u75 r75 0)]) (by rw [va_rf_some g97]) ?_
          obtain ⟨b97_1, g97_1, h⟩ := h
          refine jj_st (st2 := [.int (nI n96), .int x2, .ref b97, .int (0 : Int32), .ref b97_1]) (by rw [va_rf_some g97_1]) ?_
          obtain ⟨n97, k97, h⟩ := h
          obtain ⟨n97_1, k97_1, h⟩ := h
          obtain ⟨g97_2, g97_3, g97_4, g97_5, g97_6, h⟩ := h
          refine jx_copyi hX hY k97 k97_1 (by decide) q610 g97_2 g97_3 g97_4 g97_5 g97_6 (by clear h; omega) (Nat.le_trans (m := 60) (by decide) (by clear h; omega)) (Nat.le_of_ble_eq_true rfl) dX0_truthsFrom_97 100 rfl (fun u97 e97 => ?_)
          have h := h u97 e97
          refine jj_iload hX dX0_truthsFrom_100 4 rfl 102 rfl ?_
          refine jj_aload_n hX dX0_truthsFrom_102 0 rfl 103 rfl ?_
          refine jj_iload_n hX dX0_truthsFrom_103 1 rfl 104 rfl ?_
          refine jj_aload_n hX dX0_truthsFrom_104 0 rfl 105 rfl ?_
          refine jj_iload hX dX0_truthsFrom_105 5 rfl 107 rfl ?_
          refine kxw0_at hX hY k29 q1090 (by clear h; omega) (by clear h; omega) hc hs (Nat.le_of_ble_eq_true rfl) dX0_truthsFrom_107 110 rfl h (fun r107 u107 h => ?_)
          obtain ⟨k110, h⟩ := h
          refine xgr_1 hX hY k110 dX0_truthsFrom_110 q777 113 rfl ?_
          obtain ⟨b113, g113, h⟩ := h
          refine jj_st (st2 := [.ref b113, .int x1, .ref x0, .int x4]) (by rw [va_rf_some g113]) ?_
          obtain ⟨n113, k113, h⟩ := h
          refine jx_alen hX hY.1 k113 dX0_truthsFrom_113 114 rfl ?_
          refine jj_iadd hX dX0_truthsFrom_114 115 rfl ?_
          refine jj_iload_n hX dX0_truthsFrom_115 2 rfl 116 rfl ?_
          refine jj_aload_n hX dX0_truthsFrom_116 0 rfl 117 rfl ?_
          refine jj_iload hX dX0_truthsFrom_117 5 rfl 119 rfl ?_
          refine kxw0_at hX hY k29 q1090 (by clear h; omega) (by clear h; omega) hc hs (Nat.le_of_ble_eq_true rfl) dX0_truthsFrom_119 122 rfl h (fun r119 u119 h => ?_)
          obtain ⟨k122, h⟩ := h
          refine xgr_0 hX hY k122 dX0_truthsFrom_122 q774 125 rfl ?_
          obtain ⟨b125, g125, h⟩ := h
          refine jj_st (st2 := [.ref b125, .int x2, .int (x1 + (nI n113)), .ref x0, .int x4]) (by rw [va_rf_some g125]) ?_
          obtain ⟨n125, k125, h⟩ := h
          refine jx_alen hX hY.1 k125 dX0_truthsFrom_125 126 rfl ?_
          refine jj_iadd hX dX0_truthsFrom_126 127 rfl ?_
          refine jj_iload_n hX dX0_truthsFrom_127 3 rfl 128 rfl ?_
          obtain ⟨m128, w128, hc128, hs128, h⟩ := h
          refine rxw0_truthsFrom hX hY hRR k29 q1352 (Nat.le_of_ble_eq_true rfl) hc128 hs128 dX0_truthsFrom_128 131 rfl h (fun r128 K128 u128 hle128 h => ?_)
          have k128 := hle128.at k29 (by simp)
          have k128_1 := hle128.at k32 (by simp)
          have k128_2 := xRule.le hle128 k60
          have k128_3 := hle128.at k63 (by simp)
          have k128_4 := hle128.at k65 (by simp)
          have k128_5 := xRule.le hle128 k78
          have k128_6 := xRule.le hle128 k93
          have k128_7 := hle128.at k96 (by simp)
          have k128_8 := hle128.at k97 (by simp)
          have k128_9 := hle128.at k97_1 (by simp)
          have k128_10 := xRule.le hle128 k110
          have k128_11 := hle128.at k113 (by simp)
          have k128_12 := xRule.le hle128 k122
          have k128_13 := hle128.at k125 (by simp)
          have hl128 := hl.tr hle128
          refine jj_cs (k2 := (c + m128)) (n2 := (s + w128)) (by simp) (by simp) ?_
          refine jj_iadd hX dX0_truthsFrom_131 132 rfl ?_
          refine jj_topi (fun v132 e132 => ?_)
          have h := h v132 e132
          refine jj_istore (lv2 := [(0, .ref x0), (1, .int x1), (2, .int x2), (3, .int x3), (4, .int v132), (5, .int x5)]) hX dX0_truthsFrom_132 (Nat.le_of_ble_eq_true rfl) [1, 2, 3, 4, 0, 5] rfl 134 rfl ?_
          obtain ⟨v134, e134⟩ : ∃ y : Int32, y = x5 + (1 : Int32) := ⟨_, rfl⟩
          have h := h v134 e134
          refine jj_iinc (v := v134) (lv2 := [(0, .ref x0), (1, .int x1), (2, .int x2), (3, .int x3), (4, .int v132), (5, .int v134)]) hX dX0_truthsFrom_134 5 rfl (by rw [e134, ci_1]) (Nat.le_of_ble_eq_true rfl) [1, 2, 3, 4, 5, 0] rfl 137 rfl ?_
          refine jj_goto hX dX0_truthsFrom_137 26 (by decide) ?_
          exact ih _ _ _ _ _ _ hl128 hc128 hs128 h
        · have h := h.2 c66
          refine jj_goto hX dX0_truthsFrom_69 134 (by decide) ?_
          obtain ⟨v134, e134⟩ : ∃ y : Int32, y = x5 + (1 : Int32) := ⟨_, rfl⟩
          have h := h v134 e134
          refine jj_iinc (v := v134) (lv2 := [(0, .ref x0), (1, .int x1), (2, .int x2), (3, .int x3), (4, .int x4), (5, .int v134)]) hX dX0_truthsFrom_134 5 rfl (by rw [e134, ci_1]) (Nat.le_of_ble_eq_true rfl) [1, 2, 3, 4, 5, 0] rfl 137 rfl ?_
          refine jj_goto hX dX0_truthsFrom_137 26 (by decide) ?_
          exact ih _ _ _ _ _ _ hl hc hs h
set_option maxHeartbeats 4000000 in
set_option maxRecDepth 100000 in
set_option maxHeartbeats 4000000 in
set_option maxRecDepth 100000 in
theorem mxw0_truthsFrom (D : va_G) (dA aK aV : Nat → Nat) : ∀ (z : Nat) (l : Launch) (hfl : l.stackTraces = false) (x0 : Nat) (x1 : Int32) (x2 : Int32) (x3 : Int32) (K : XK) (u : XS) (mc ms : Nat) (Post : Int32 → XK → XS → Prop), xw0_truthsFrom z x0 x1 x2 x3 K u mc ms Post → ∀ sz : Nat, Met l yX0_truthsFrom (ws_ yX0_truthsFrom cX0_truthsFrom 6 (Option.some Jvm.ClassFile.FieldType.int)) (jx_rm (z * 7) (z * 164) mc ms) (jx_Pc D dA aK aV K u sz [.ref x0, .int x1, .int x2, .int x3]) (va_Qi (fun (r : Int32) (w : XK × XS) => Post r w.1 w.2) (jx_BA D dA K sz) (AX K sz)) mc ms (AX K sz) := by
  intro z
  induction z with
  | zero => intro l hfl x0 x1 x2 x3 K u mc ms Post h; exact h.elim
  | succ z ih =>
    intro l hfl x0 x1 x2 x3 K u mc ms Post h sz
    rw [Nat.succ_mul, Nat.succ_mul]
    have h : xw0_truthsFrom_S (xw0_truthsFrom z) x0 x1 x2 x3 K u mc ms Post := h
    refine jx_start hfl [.ref x0, .int x1, .int x2, .int x3] [(0, .ref x0), (1, .int x1), (2, .int x2), (3, .int x3)] (by decide) (Nat.le_of_ble_eq_true rfl) rfl (fun X hX hY hin => ?_)
    have hRR := ih (jj_l X) hY.2.2.2.2
    generalize xw0_truthsFrom z = RR at h hRR
    unfold xw0_truthsFrom_S at h
    refine jj_iload_n hX dX0_truthsFrom_0 1 rfl 1 rfl ?_
    refine jj_iload_n hX dX0_truthsFrom_1 3 rfl 2 rfl ?_
    refine jj_icmp_ne hX dX0_truthsFrom_2 20 5 (by decide) rfl (fun c2 => ?_) (fun c2 => ?_)
    · have h := h.1 c2
      refine jj_iconst hX dX0_truthsFrom_20 ci_0 21 rfl ?_
      refine jj_istore (lv2 := [(0, .ref x0), (1, .int x1), (2, .int x2), (3, .int x3), (4, .int (0 : Int32))]) hX dX0_truthsFrom_21 (Nat.le_of_ble_eq_true rfl) [1, 2, 3, 4, 0] rfl 23 rfl ?_
      refine jj_iconst hX dX0_truthsFrom_23 ci_0 24 rfl ?_
      refine jj_istore (lv2 := [(0, .ref x0), (1, .int x1), (2, .int x2), (3, .int x3), (4, .int (0 : Int32)), (5, .int (0 : Int32))]) hX dX0_truthsFrom_24 (Nat.le_of_ble_eq_true rfl) [1, 2, 3, 4, 5, 0] rfl 26 rfl ?_
      obtain ⟨n9, h⟩ := h
      exact txw0_truthsFrom_L26 hX hY hRR n9 _ _ _ _ _ _ XLe.rf (Nat.zero_le _) (Nat.zero_le _) h
    · have h := h.2 c2
      refine jj_aload_n hX dX0_truthsFrom_5 0 rfl 6 rfl ?_
      refine jj_iload_n hX dX0_truthsFrom_6 2 rfl 7 rfl ?_
      refine jj_iload_n hX dX0_truthsFrom_7 3 rfl 8 rfl ?_
      obtain ⟨k8, h⟩ := h
      obtain ⟨m8, w8, hc8, hs8, h⟩ := h
      refine kxw0_isTrue hX hY k8 q1356 (by clear h; omega) (by clear h; omega) (by simpa using hc8) (by simpa using hs8) (Nat.le_of_ble_eq_true rfl) dX0_truthsFrom_8 11 rfl h (fun r8 K8 u8 hle8 hb8 h => ?_)
      have k8_1 := hle8.at k8 (by simp)
      have hl8 := XLe.rf.tr hle8
      refine jj_cs (k2 := m8) (n2 := w8) (by simp) (by simp) ?_
      refine jj_if_eq hX dX0_truthsFrom_11 18 14 (by decide) rfl (fun c11 => ?_) (fun c11 => ?_)
      · have h := h.1 c11
        refine jj_iconst hX dX0_truthsFrom_18 ci_0 19 rfl ?_
        exact jj_reti (post := (fun (r : Int32) (w : XK × XS) => Post r w.1 w.2)) (u := (K8, u8)) hX dX0_truthsFrom_19 hc8 hs8 (jx_hBA hl8) h
      · have h := h.2 c11
        refine jj_iconst hX dX0_truthsFrom_14 ci_1 15 rfl ?_
        refine jj_goto hX dX0_truthsFrom_15 19 (by decide) ?_
        exact jj_reti (post := (fun (r : Int32) (w : XK × XS) => Post r w.1 w.2)) (u := (K8, u8)) hX dX0_truthsFrom_19 hc8 hs8 (jx_hBA hl8) h
theorem kxw0_truthsFrom {X : JC} {A : Nat → Prop} {Q : State → Prop} {nL k n pc z : Nat} {lv : List (Nat × Value)} {st : List Value} {own : String} {cc : ByteArray} {ret : Option FieldType} {F LL mc ms ix mc2 ms2 : Nat} {D : va_G} {dA aK aV : Nat → Nat} {K : XK} {u : XS} {x0 : Nat} {x1 : Int32} {x2 : Int32} {x3 : Int32} {Post : Int32 → XK → XS → Prop} (hX : JX X own cc nL ret F LL mc ms) (hY : JY X D dA aK aV A) (h1a : K x0 = (1, 0)) (hlk : (Cond.methodLink own ix yX0_truthsFrom) ∈ lw_all) (hF : z * 7 + 1 ≤ F) (hL : 8 + (6 + 11) + z * 164 ≤ LL) (hk : k + mc2 ≤ mc) (hk2 : n + ms2 ≤ ms) (hw : (st.map fun v => v.category).sum ≤ 8) (d : decode cc pc = .ok (.invokevirtual ix, 3)) (q : Nat) (hq : pc + 3 = q) (h : xw0_truthsFrom z x0 x1 x2 x3 K u mc2 ms2 Post) (kk : ∀ (r : Int32) (K2 : XK) (u2 : XS), XLe K K2 → Post r K2 u2 → JJ X A Q nL (XP D dA A K2 u2) (k + mc2) (n + ms2) q lv (.int r :: st)) : JJ X A Q nL (XP D dA A K u) k n pc lv (.int x3 :: .int x2 :: .int x1 :: .ref x0 :: st) :=
  jx_callViA (na := 3) (As := [.int x1, .int x2, .int x3]) hX hY jf0 h1a (fun sz => mxw0_truthsFrom D dA aK aV z (jj_l X) hY.2.2.2.2 x0 x1 x2 x3 K u mc2 ms2 Post h sz) hlk q1354 qs49 q120 q1355 ⟨rfl, hd_xw0_truthsFrom⟩ rfl rfl hw hF hL hk hk2 d q hq kk
/-- RaisedPress.truths(II)I -/
def xw0_truths (x0 : Nat) (x1 : Int32) (x2 : Int32) (K : XK) (u : XS) (mc ms : Nat) (Post : Int32 → XK → XS → Prop) : Prop :=
  K x0 = (1, 0) ∧
  ∀ u2 : XS, u2 = xsi u x0 7 (0 : Int32) →
  ∃ b13, (xr u2 x0 15) = some b13 ∧
  ∃ m13 w13, m13 ≤ mc ∧ w13 ≤ ms ∧ xw0_reads x0 x1 x2 (1 : Int32) b13 K u2 m13 w13 (fun K13 u13 =>
    xw0_noneFails x0 K13 u13 (fun u17 =>
      xw0_countWays x0 x2 K13 u17 (fun r23 u23 =>
        ((9999 : Int32) < r23 →
          ∃ m39 w39, (m13 + m39) ≤ mc ∧ (w13 + w39) ≤ ms ∧ xw0_want x0 (0 : Int32) (7 : Int32) K13 u23 m39 w39 (fun K39 u39 =>
            ∃ z46, z46 ≤ 21 ∧
            ∃ m46 w46, ((m13 + m39) + m46) ≤ mc ∧ ((w13 + w39) + w46) ≤ ms ∧ xw0_truthsFrom z46 x0 (0 : Int32) (0 : Int32) x2 K39 u39 m46 w46 (fun r46 K46 u46 =>
              Post r46 K46 u46)) (fun q39 K39 u39 =>
            xw0_none x0 q39 K39 u39 (fun r53 u53 =>
              Post r53 K39 u53))) ∧
        (¬ (9999 : Int32) < r23 →
          ∃ m39 w39, (m13 + m39) ≤ mc ∧ (w13 + w39) ≤ ms ∧ xw0_want x0 (1 : Int32) (7 : Int32) K13 u23 m39 w39 (fun K39 u39 =>
            ∃ z46, z46 ≤ 21 ∧
            ∃ m46 w46, ((m13 + m39) + m46) ≤ mc ∧ ((w13 + w39) + w46) ≤ ms ∧ xw0_truthsFrom z46 x0 (0 : Int32) (0 : Int32) x2 K39 u39 m46 w46 (fun r46 K46 u46 =>
              Post r46 K46 u46)) (fun q39 K39 u39 =>
            xw0_none x0 q39 K39 u39 (fun r53 u53 =>
              Post r53 K39 u53)))))) (fun q13 K13 u13 =>
    xw0_none x0 q13 K13 u13 (fun r53 u53 =>
      Post r53 K13 u53))
set_option maxHeartbeats 4000000 in
set_option maxRecDepth 100000 in
theorem mxw0_truths (l : Launch) (hfl : l.stackTraces = false) (D : va_G) (dA aK aV : Nat → Nat) (x0 : Nat) (x1 : Int32) (x2 : Int32) (K : XK) (u : XS) (mc ms : Nat) (Post : Int32 → XK → XS → Prop) (h : xw0_truths x0 x1 x2 K u mc ms Post) (sz : Nat) : Met l yX0_truths (wsW_ yX0_truths cX0_truths 4 (Option.some Jvm.ClassFile.FieldType.int) [(5, 49, 50, 48)]) (jx_rm 148 10296 mc ms) (jx_Pc D dA aK aV K u sz [.ref x0, .int x1, .int x2]) (va_Qi (fun (r : Int32) (w : XK × XS) => Post r w.1 w.2) (jx_BA D dA K sz) (AX K sz)) mc ms (AX K sz) := by
  refine jx_startW hfl [.ref x0, .int x1, .int x2] [(0, .ref x0), (1, .int x1), (2, .int x2)] (by decide) (Nat.le_of_ble_eq_true rfl) rfl (fun X hX hY hE => ?_)
  unfold xw0_truths at h
  refine jj_aload_n hX dX0_truths_0 0 rfl 1 rfl ?_
  refine jj_iconst hX dX0_truths_1 ci_0 2 rfl ?_
  obtain ⟨k2, h⟩ := h
  refine xp0_7 hX hY k2 dX0_truths_2 q418 5 rfl (fun u2 e2 => ?_)
  have h := h u2 e2
  refine jj_aload_n hX dX0_truths_5 0 rfl 6 rfl ?_
  refine jj_iload_n hX dX0_truths_6 1 rfl 7 rfl ?_
  refine jj_iload_n hX dX0_truths_7 2 rfl 8 rfl ?_
  refine jj_iconst hX dX0_truths_8 ci_1 9 rfl ?_
  refine jj_aload_n hX dX0_truths_9 0 rfl 10 rfl ?_
  refine xg0_15 hX hY k2 dX0_truths_10 q426 13 rfl ?_
  obtain ⟨b13, g13, h⟩ := h
  refine jj_st (st2 := [.ref b13, .int (1 : Int32), .int x2, .int x1, .ref x0]) (by rw [va_rf_some g13]) ?_
  obtain ⟨m13, w13, hc13, hs13, h⟩ := h
  refine kxw0_reads hX hY k2 q1313 (Nat.le_of_ble_eq_true rfl) (Nat.le_of_ble_eq_true rfl) (by simpa using hc13) (by simpa using hs13) (Nat.le_of_ble_eq_true rfl) dX0_truths_13 16 rfl h (fun q13 K13 u13 hle13 h => jt_cs (k2 := m13) (n2 := w13) (by simp) (by simp) ?_) (fun K13 u13 hle13 h => jj_cs (k2 := m13) (n2 := w13) (by simp) (by simp) ?_)
  · have k13 := hle13.at k2 (by simp)
    have hl13 := XLe.rf.tr hle13
    refine jt_catch0 (nm := "RaisedPress$Refused") hX hY.2.1 hE rfl (by decide) q239 nq241 ?_
    refine jj_astore_n (lv2 := [(0, .ref x0), (3, .ref q13)]) hX dX0_truths_50 (Nat.le_of_ble_eq_true rfl) [1, 0] rfl 51 rfl ?_
    refine jj_aload_n hX dX0_truths_51 0 rfl 52 rfl ?_
    refine jj_aload_n hX dX0_truths_52 1 rfl 53 rfl ?_
    refine kxw0_none hX hY k13 q598 (Nat.le_of_ble_eq_true rfl) (Nat.le_of_ble_eq_true rfl) hc13 hs13 (Nat.le_of_ble_eq_true rfl) dX0_truths_53 56 rfl h (fun r53 u53 h => ?_)
    exact jj_reti (post := (fun (r : Int32) (w : XK × XS) => Post r w.1 w.2)) (u := (K13, u53)) hX dX0_truths_56 hc13 hs13 (jx_hBA hl13) h
  · have k13 := hle13.at k2 (by simp)
    have hl13 := XLe.rf.tr hle13
    refine jj_aload_n hX dX0_truths_16 0 rfl 17 rfl ?_
    refine kxw0_noneFails hX hY k13 q1322 (Nat.le_of_ble_eq_true rfl) (Nat.le_of_ble_eq_true rfl) hc13 hs13 (Nat.le_of_ble_eq_true rfl) dX0_truths_17 20 rfl h (fun u17 h => ?_)
    refine jj_aload_n hX dX0_truths_20 0 rfl 21 rfl ?_
    refine jj_aload_n hX dX0_truths_21 0 rfl 22 rfl ?_
    refine jj_iload_n hX dX0_truths_22 2 rfl 23 rfl ?_
    refine kxw0_countWays hX hY k13 q1326 (Nat.le_of_ble_eq_true rfl) (Nat.le_of_ble_eq_true rfl) hc13 hs13 (Nat.le_of_ble_eq_true rfl) dX0_truths_23 26 rfl h (fun r23 u23 h => ?_)
    refine jj_sipush hX dX0_truths_26 cs_9999 29 rfl ?_
    refine jj_icmp_gt hX dX0_truths_29 36 32 (by decide) rfl (fun c29 => ?_) (fun c29 => ?_)
    · have h := h.1 c29
      refine jj_iconst hX dX0_truths_36 ci_0 37 rfl ?_
      refine jj_bipush hX dX0_truths_37 cb_7 39 rfl ?_
      obtain ⟨m39, w39, hc39, hs39, h⟩ := h
      refine kxw0_want hX hY k13 q539 (Nat.le_of_ble_eq_true rfl) (Nat.le_of_ble_eq_true rfl) hc39 hs39 (Nat.le_of_ble_eq_true rfl) dX0_truths_39 42 rfl h (fun q39 K39 u39 hle39 h => jt_cs (k2 := (m13 + m39)) (n2 := (w13 + w39)) (by simp) (by simp) ?_) (fun K39 u39 hle39 h => jj_cs (k2 := (m13 + m39)) (n2 := (w13 + w39)) (by simp) (by simp) ?_)
      · have k39 := hle39.at k13 (by simp)
        have hl39 := hl13.tr hle39
        refine jt_catch0 (nm := "RaisedPress$Refused") hX hY.2.1 hE rfl (by decide) q239 nq241 ?_
        refine jj_astore_n (lv2 := [(0, .ref x0), (3, .ref q39)]) hX dX0_truths_50 (Nat.le_of_ble_eq_true rfl) [1, 0] rfl 51 rfl ?_
        refine jj_aload_n hX dX0_truths_51 0 rfl 52 rfl ?_
        refine jj_aload_n hX dX0_truths_52 1 rfl 53 rfl ?_
        refine kxw0_none hX hY k39 q598 (Nat.le_of_ble_eq_true rfl) (Nat.le_of_ble_eq_true rfl) hc39 hs39 (Nat.le_of_ble_eq_true rfl) dX0_truths_53 56 rfl h (fun r53 u53 h => ?_)
        exact jj_reti (post := (fun (r : Int32) (w : XK × XS) => Post r w.1 w.2)) (u := (K39, u53)) hX dX0_truths_56 hc39 hs39 (jx_hBA hl39) h
      · have k39 := hle39.at k13 (by simp)
        have hl39 := hl13.tr hle39
        refine jj_aload_n hX dX0_truths_42 0 rfl 43 rfl ?_
        refine jj_iconst hX dX0_truths_43 ci_0 44 rfl ?_
        refine jj_iconst hX dX0_truths_44 ci_0 45 rfl ?_
        refine jj_iload_n hX dX0_truths_45 2 rfl 46 rfl ?_
        obtain ⟨z46, hz46, h⟩ := h
        obtain ⟨m46, w46, hc46, hs46, h⟩ := h
        refine kxw0_truthsFrom hX hY k39 q1352 (by clear h; omega) (by clear h; omega) hc46 hs46 (Nat.le_of_ble_eq_true rfl) dX0_truths_46 49 rfl h (fun r46 K46 u46 hle46 h => ?_)
        have k46 := hle46.at k39 (by simp)
        have hl46 := hl39.tr hle46
        refine jj_cs (k2 := ((m13 + m39) + m46)) (n2 := ((w13 + w39) + w46)) (by simp) (by simp) ?_
        exact jj_reti (post := (fun (r : Int32) (w : XK × XS) => Post r w.1 w.2)) (u := (K46, u46)) hX dX0_truths_49 hc46 hs46 (jx_hBA hl46) h
    · have h := h.2 c29
      refine jj_iconst hX dX0_truths_32 ci_1 33 rfl ?_
      refine jj_goto hX dX0_truths_33 37 (by decide) ?_
      refine jj_bipush hX dX0_truths_37 cb_7 39 rfl ?_
      obtain ⟨m39, w39, hc39, hs39, h⟩ := h
      refine kxw0_want hX hY k13 q539 (Nat.le_of_ble_eq_true rfl) (Nat.le_of_ble_eq_true rfl) hc39 hs39 (Nat.le_of_ble_eq_true rfl) dX0_truths_39 42 rfl h (fun q39 K39 u39 hle39 h => jt_cs (k2 := (m13 + m39)) (n2 := (w13 + w39)) (by simp) (by simp) ?_) (fun K39 u39 hle39 h => jj_cs (k2 := (m13 + m39)) (n2 := (w13 + w39)) (by simp) (by simp) ?_)
      · have k39 := hle39.at k13 (by simp)
        have hl39 := hl13.tr hle39
        refine jt_catch0 (nm := "RaisedPress$Refused") hX hY.2.1 hE rfl (by decide) q239 nq241 ?_
        refine jj_astore_n (lv2 := [(0, .ref x0), (3, .ref q39)]) hX dX0_truths_50 (Nat.le_of_ble_eq_true rfl) [1, 0] rfl 51 rfl ?_
        refine jj_aload_n hX dX0_truths_51 0 rfl 52 rfl ?_
        refine jj_aload_n hX dX0_truths_52 1 rfl 53 rfl ?_
        refine kxw0_none hX hY k39 q598 (Nat.le_of_ble_eq_true rfl) (Nat.le_of_ble_eq_true rfl) hc39 hs39 (Nat.le_of_ble_eq_true rfl) dX0_truths_53 56 rfl h (fun r53 u53 h => ?_)
        exact jj_reti (post := (fun (r : Int32) (w : XK × XS) => Post r w.1 w.2)) (u := (K39, u53)) hX dX0_truths_56 hc39 hs39 (jx_hBA hl39) h
      · have k39 := hle39.at k13 (by simp)
        have hl39 := hl13.tr hle39
        refine jj_aload_n hX dX0_truths_42 0 rfl 43 rfl ?_
        refine jj_iconst hX dX0_truths_43 ci_0 44 rfl ?_
        refine jj_iconst hX dX0_truths_44 ci_0 45 rfl ?_
        refine jj_iload_n hX dX0_truths_45 2 rfl 46 rfl ?_
        obtain ⟨z46, hz46, h⟩ := h
        obtain ⟨m46, w46, hc46, hs46, h⟩ := h
        refine kxw0_truthsFrom hX hY k39 q1352 (by clear h; omega) (by clear h; omega) hc46 hs46 (Nat.le_of_ble_eq_true rfl) dX0_truths_46 49 rfl h (fun r46 K46 u46 hle46 h => ?_)
        have k46 := hle46.at k39 (by simp)
        have hl46 := hl39.tr hle46
        refine jj_cs (k2 := ((m13 + m39) + m46)) (n2 := ((w13 + w39) + w46)) (by simp) (by simp) ?_
        exact jj_reti (post := (fun (r : Int32) (w : XK × XS) => Post r w.1 w.2)) (u := (K46, u46)) hX dX0_truths_49 hc46 hs46 (jx_hBA hl46) h
theorem hd_xw0_truths : yX0_truths.cls ≠ "java/lang/invoke/MethodHandle" ∧ yX0_truths.cls ≠ "java/lang/invoke/VarHandle" ∧ (parseMethodDescriptor yX0_truths.desc).map (fun d => d.parameters.length) = some 2 := by decide +kernel
theorem kxw0_truths {X : JC} {A : Nat → Prop} {Q : State → Prop} {nL k n pc : Nat} {lv : List (Nat × Value)} {st : List Value} {own : String} {cc : ByteArray} {ret : Option FieldType} {F LL mc ms ix mc2 ms2 : Nat} {D : va_G} {dA aK aV : Nat → Nat} {K : XK} {u : XS} {x0 : Nat} {x1 : Int32} {x2 : Int32} {Post : Int32 → XK → XS → Prop} (hX : JX X own cc nL ret F LL mc ms) (hY : JY X D dA aK aV A) (h1a : K x0 = (1, 0)) (hlk : (Cond.methodLink own ix yX0_truths) ∈ lw_all) (hF : 148 + 1 ≤ F) (hL : 8 + (4 + 11) + 10296 ≤ LL) (hk : k + mc2 ≤ mc) (hk2 : n + ms2 ≤ ms) (hw : (st.map fun v => v.category).sum ≤ 8) (d : decode cc pc = .ok (.invokevirtual ix, 3)) (q : Nat) (hq : pc + 3 = q) (h : xw0_truths x0 x1 x2 K u mc2 ms2 Post) (kk : ∀ (r : Int32) (K2 : XK) (u2 : XS), XLe K K2 → Post r K2 u2 → JJ X A Q nL (XP D dA A K2 u2) (k + mc2) (n + ms2) q lv (.int r :: st)) : JJ X A Q nL (XP D dA A K u) k n pc lv (.int x2 :: .int x1 :: .ref x0 :: st) :=
  jx_callWVi (na := 2) (As := [.int x1, .int x2]) hX hY jf0 h1a (fun sz => mxw0_truths (jj_l X) hY.2.2.2.2 D dA aK aV x0 x1 x2 K u mc2 ms2 Post h sz) hlk q1349 q1350 q120 q1351 ⟨rfl, hd_xw0_truths⟩ rfl rfl hw hF hL hk hk2 d q hq kk
def xw0_failed_B92 (Post : Int32 → XK → XS → Prop) (mc ms : Nat) (x0 : Nat) (x1 : Int32) (x2 : Int32) (x3 : Int32) (s0 : Int32) (s1 : Nat) (K : XK) (u : XS) (c s : Nat) : Prop :=
  K s1 = (1, 0) ∧
  ∃ m93 w93, (c + m93) ≤ mc ∧ (s + w93) ≤ ms ∧ xw0_want s1 s0 (3 : Int32) K u m93 w93 (fun K93 u93 =>
    K93 x0 = (1, 0) ∧
    ∃ b104, (xr u93 x0 15) = some b104 ∧
    ∃ m104 w104, ((c + m93) + m104) ≤ mc ∧ ((s + w93) + w104) ≤ ms ∧ xw0_reads x0 x1 x3 (1 : Int32) b104 K93 u93 m104 w104 (fun K104 u104 =>
      ∃ b115, (xr u104 x0 16) = some b115 ∧
      ∃ m115 w115, (((c + m93) + m104) + m115) ≤ mc ∧ (((s + w93) + w104) + w115) ≤ ms ∧ xw0_reads x0 x2 x3 (0 : Int32) b115 K104 u104 m115 w115 (fun K115 u115 =>
        xw0_countWays x0 x3 K115 u115 (fun r120 u120 =>
          Post r120 K115 u120)) (fun q115 K115 u115 =>
        xw0_none x0 q115 K115 u115 (fun r129 u129 =>
          Post r129 K115 u129))) (fun q104 K104 u104 =>
      xw0_none x0 q104 K104 u104 (fun r129 u129 =>
        Post r129 K104 u129))) (fun q93 K93 u93 =>
    K93 x0 = (1, 0) ∧
    xw0_none x0 q93 K93 u93 (fun r129 u129 =>
      Post r129 K93 u129))
def xw0_failed_B42 (Post : Int32 → XK → XS → Prop) (mc ms : Nat) (x0 : Nat) (x1 : Int32) (x2 : Int32) (x3 : Int32) (s0 : Int32) (s1 : Nat) (K : XK) (u : XS) (c s : Nat) : Prop :=
  K s1 = (1, 0) ∧
  ∀ u42 : XS, u42 = xsi u s1 7 s0 →
  K x0 = (1, 0) ∧
  ((xi u42 x0 7) ≤ 0 →
    ∃ m56 w56, (c + m56) ≤ mc ∧ (s + w56) ≤ ms ∧ xw0_on x0 x1 K u42 m56 w56 (fun r56 K56 u56 =>
      ∃ m63 w63, ((c + m56) + m63) ≤ mc ∧ ((s + w56) + w63) ≤ ms ∧ xw0_on x0 x2 K56 u56 m63 w63 (fun r63 K63 u63 =>
        xw0_sizeOf r56 K63 u63 (fun r71 u71 =>
          (r71 < x3 →
            xw0_failed_B92 Post mc ms x0 x1 x2 x3 (0 : Int32) x0 K63 u71 ((c + m56) + m63) ((s + w56) + w63)) ∧
          (¬ r71 < x3 →
            xw0_sizeOf r63 K63 u71 (fun r80 u80 =>
              (r80 < x3 →
                xw0_failed_B92 Post mc ms x0 x1 x2 x3 (0 : Int32) x0 K63 u80 ((c + m56) + m63) ((s + w56) + w63)) ∧
              (¬ r80 < x3 →
                xw0_failed_B92 Post mc ms x0 x1 x2 x3 (1 : Int32) x0 K63 u80 ((c + m56) + m63) ((s + w56) + w63)))))) (fun q63 K63 u63 =>
        xw0_none x0 q63 K63 u63 (fun r129 u129 =>
          Post r129 K63 u129))) (fun q56 K56 u56 =>
      xw0_none x0 q56 K56 u56 (fun r129 u129 =>
        Post r129 K56 u129))) ∧
  (¬ (xi u42 x0 7) ≤ 0 →
    Post (-1 : Int32) K u42)
/-- RaisedPress.failed(III)I -/
def xw0_failed (x0 : Nat) (x1 : Int32) (x2 : Int32) (x3 : Int32) (K : XK) (u : XS) (mc ms : Nat) (Post : Int32 → XK → XS → Prop) : Prop :=
  xs_isIn x1.toInt64 (0 : Int64) (3 : Int64) (fun r7 =>
    (r7 = 0 →
      xw0_failed_B42 Post mc ms x0 x1 x2 x3 (1 : Int32) x0 K u 0 0) ∧
    (¬ r7 = 0 →
      xs_isIn x2.toInt64 (0 : Int64) (3 : Int64) (fun r19 =>
        (r19 = 0 →
          xw0_failed_B42 Post mc ms x0 x1 x2 x3 (1 : Int32) x0 K u 0 0) ∧
        (¬ r19 = 0 →
          xs_isIn x3.toInt64 (1 : Int64) (20 : Int64) (fun r31 =>
            (r31 = 0 →
              xw0_failed_B42 Post mc ms x0 x1 x2 x3 (1 : Int32) x0 K u 0 0) ∧
            (¬ r31 = 0 →
              xw0_failed_B42 Post mc ms x0 x1 x2 x3 (0 : Int32) x0 K u 0 0))))))
set_option maxHeartbeats 4000000 in
set_option maxRecDepth 100000 in
theorem txw0_failed_B92 {X : JC} {D : va_G} {dA aK aV : Nat → Nat} {sz : Nat} {K0 : XK} {mc ms : Nat} {Post : Int32 → XK → XS → Prop} {x0 : Nat} {x1 : Int32} {x2 : Int32} {x3 : Int32} {s0 : Int32} {s1 : Nat} {K : XK} {u : XS} {c s : Nat} (hX : JX X yX0_failed.cls cX0_failed 6 (Option.some Jvm.ClassFile.FieldType.int) 10 10296 mc ms) (hY : JY X D dA aK aV (AX K0 sz)) (hE : JE X [(54, 123, 124, 48)]) (hl : XLe K0 K) (hc : c ≤ mc) (hs : s ≤ ms) (h : xw0_failed_B92 Post mc ms x0 x1 x2 x3 s0 s1 K u c s) : JJ X (AX K0 sz) (jj_Q X (va_Qi (fun (r : Int32) (w : XK × XS) => Post r w.1 w.2) (jx_BA D dA K0 sz) (AX K0 sz)) mc ms (AX K0 sz)) 6 (XP D dA (AX K0 sz) K u) c s 92 [(0, .ref x0), (1, .int x1), (2, .int x2), (3, .int x3)] [.int s0, .ref s1] := by
  unfold xw0_failed_B92 at h
  refine jj_iconst hX dX0_failed_92 ci_3 93 rfl ?_
  obtain ⟨k93, h⟩ := h
  obtain ⟨m93, w93, hc93, hs93, h⟩ := h
  refine kxw0_want hX hY k93 q539 (Nat.le_of_ble_eq_true rfl) (Nat.le_of_ble_eq_true rfl) hc93 hs93 (Nat.le_of_ble_eq_true rfl) dX0_failed_93 96 rfl h (fun q93 K93 u93 hle93 h => jt_cs (k2 := (c + m93)) (n2 := (s + w93)) (by simp) (by simp) ?_) (fun K93 u93 hle93 h => jj_cs (k2 := (c + m93)) (n2 := (s + w93)) (by simp) (by simp) ?_)
  · have k93_1 := hle93.at k93 (by simp)
    have hl93 := hl.tr hle93
    refine jt_catch0 (nm := "RaisedPress$Refused") hX hY.2.1 hE rfl (by decide) q239 nq241 ?_
    refine jj_astore (lv2 := [(0, .ref x0), (4, .ref q93)]) hX dX0_failed_124 (Nat.le_of_ble_eq_true rfl) [1, 0] rfl 126 rfl ?_
    refine jj_aload_n hX dX0_failed_126 0 rfl 127 rfl ?_
    refine jj_aload hX dX0_failed_127 1 rfl 129 rfl ?_
    obtain ⟨k129, h⟩ := h
    refine kxw0_none hX hY k129 q598 (Nat.le_of_ble_eq_true rfl) (Nat.le_of_ble_eq_true rfl) hc93 hs93 (Nat.le_of_ble_eq_true rfl) dX0_failed_129 132 rfl h (fun r129 u129 h => ?_)
    exact jj_reti (post := (fun (r : Int32) (w : XK × XS) => Post r w.1 w.2)) (u := (K93, u129)) hX dX0_failed_132 hc93 hs93 (jx_hBA hl93) h
  · have k93_1 := hle93.at k93 (by simp)
    have hl93 := hl.tr hle93
    refine jj_aload_n hX dX0_failed_96 0 rfl 97 rfl ?_
    refine jj_iload_n hX dX0_failed_97 1 rfl 98 rfl ?_
    refine jj_iload_n hX dX0_failed_98 3 rfl 99 rfl ?_
    refine jj_iconst hX dX0_failed_99 ci_1 100 rfl ?_
    refine jj_aload_n hX dX0_failed_100 0 rfl 101 rfl ?_
    obtain ⟨k101, h⟩ := h
    refine xg0_15 hX hY k101 dX0_failed_101 q426 104 rfl ?_
    obtain ⟨b104, g104, h⟩ := h
    refine jj_st (st2 := [.ref b104, .int (1 : Int32), .int x3, .int x1, .ref x0]) (by rw [va_rf_some g104]) ?_
    obtain ⟨m104, w104, hc104, hs104, h⟩ := h
    refine kxw0_reads hX hY k101 q1313 (Nat.le_of_ble_eq_true rfl) (Nat.le_of_ble_eq_true rfl) hc104 hs104 (Nat.le_of_ble_eq_true rfl) dX0_failed_104 107 rfl h (fun q104 K104 u104 hle104 h => jt_cs (k2 := ((c + m93) + m104)) (n2 := ((s + w93) + w104)) (by simp) (by simp) ?_) (fun K104 u104 hle104 h => jj_cs (k2 := ((c + m93) + m104)) (n2 := ((s + w93) + w104)) (by simp) (by simp) ?_)
    · have k104 := hle104.at k93_1 (by simp)
      have k104_1 := hle104.at k101 (by simp)
      have hl104 := hl93.tr hle104
      refine jt_catch0 (nm := "RaisedPress$Refused") hX hY.2.1 hE rfl (by decide) q239 nq241 ?_
      refine jj_astore (lv2 := [(0, .ref x0), (4, .ref q104)]) hX dX0_failed_124 (Nat.le_of_ble_eq_true rfl) [1, 0] rfl 126 rfl ?_
      refine jj_aload_n hX dX0_failed_126 0 rfl 127 rfl ?_
      refine jj_aload hX dX0_failed_127 1 rfl 129 rfl ?_
      refine kxw0_none hX hY k104_1 q598 (Nat.le_of_ble_eq_true rfl) (Nat.le_of_ble_eq_true rfl) hc104 hs104 (Nat.le_of_ble_eq_true rfl) dX0_failed_129 132 rfl h (fun r129 u129 h => ?_)
      exact jj_reti (post := (fun (r : Int32) (w : XK × XS) => Post r w.1 w.2)) (u := (K104, u129)) hX dX0_failed_132 hc104 hs104 (jx_hBA hl104) h
    · have k104 := hle104.at k93_1 (by simp)
      have k104_1 := hle104.at k101 (by simp)
      have hl104 := hl93.tr hle104
      refine jj_aload_n hX dX0_failed_107 0 rfl 108 rfl ?_
      refine jj_iload_n hX dX0_failed_108 2 rfl 109 rfl ?_
      refine jj_iload_n hX dX0_failed_109 3 rfl 110 rfl ?_
      refine jj_iconst hX dX0_failed_110 ci_0 111 rfl ?_
      refine jj_aload_n hX dX0_failed_111 0 rfl 112 rfl ?_
      refine xg0_16 hX hY k104_1 dX0_failed_112 q427 115 rfl ?_
      obtain ⟨b115, g115, h⟩ := h
      refine jj_st (st2 := [.ref b115, .int (0 : Int32), .int x3, .int x2, .ref x0]) (by rw [va_rf_some g115]) ?_
      obtain ⟨m115, w115, hc115, hs115, h⟩ := h
      refine kxw0_reads hX hY k104_1 q1313 (Nat.le_of_ble_eq_true rfl) (Nat.le_of_ble_eq_true rfl) hc115 hs115 (Nat.le_of_ble_eq_true rfl) dX0_failed_115 118 rfl h (fun q115 K115 u115 hle115 h => jt_cs (k2 := (((c + m93) + m104) + m115)) (n2 := (((s + w93) + w104) + w115)) (by simp) (by simp) ?_) (fun K115 u115 hle115 h => jj_cs (k2 := (((c + m93) + m104) + m115)) (n2 := (((s + w93) + w104) + w115)) (by simp) (by simp) ?_)
      · have k115 := hle115.at k104 (by simp)
        have k115_1 := hle115.at k104_1 (by simp)
        have hl115 := hl104.tr hle115
        refine jt_catch0 (nm := "RaisedPress$Refused") hX hY.2.1 hE rfl (by decide) q239 nq241 ?_
        refine jj_astore (lv2 := [(0, .ref x0), (4, .ref q115)]) hX dX0_failed_124 (Nat.le_of_ble_eq_true rfl) [1, 0] rfl 126 rfl ?_
        refine jj_aload_n hX dX0_failed_126 0 rfl 127 rfl ?_
        refine jj_aload hX dX0_failed_127 1 rfl 129 rfl ?_
        refine kxw0_none hX hY k115_1 q598 (Nat.le_of_ble_eq_true rfl) (Nat.le_of_ble_eq_true rfl) hc115 hs115 (Nat.le_of_ble_eq_true rfl) dX0_failed_129 132 rfl h (fun r129 u129 h => ?_)
        exact jj_reti (post := (fun (r : Int32) (w : XK × XS) => Post r w.1 w.2)) (u := (K115, u129)) hX dX0_failed_132 hc115 hs115 (jx_hBA hl115) h
      · have k115 := hle115.at k104 (by simp)
        have k115_1 := hle115.at k104_1 (by simp)
        have hl115 := hl104.tr hle115
        refine jj_aload_n hX dX0_failed_118 0 rfl 119 rfl ?_
        refine jj_iload_n hX dX0_failed_119 3 rfl 120 rfl ?_
        refine kxw0_countWays hX hY k115_1 q1326 (Nat.le_of_ble_eq_true rfl) (Nat.le_of_ble_eq_true rfl) hc115 hs115 (Nat.le_of_ble_eq_true rfl) dX0_failed_120 123 rfl h (fun r120 u120 h => ?_)
        exact jj_reti (post := (fun (r : Int32) (w : XK × XS) => Post r w.1 w.2)) (u := (K115, u120)) hX dX0_failed_123 hc115 hs115 (jx_hBA hl115) h
set_option maxHeartbeats 4000000 in
set_option maxRecDepth 100000 in
theorem txw0_failed_B42 {X : JC} {D : va_G} {dA aK aV : Nat → Nat} {sz : Nat} {K0 : XK} {mc ms : Nat} {Post : Int32 → XK → XS → Prop} {x0 : Nat} {x1 : Int32} {x2 : Int32} {x3 : Int32} {s0 : Int32} {s1 : Nat} {K : XK} {u : XS} {c s : Nat} (hX : JX X yX0_failed.cls cX0_failed 6 (Option.some Jvm.ClassFile.FieldType.int) 10 10296 mc ms) (hY : JY X D dA aK aV (AX K0 sz)) (hE : JE X [(54, 123, 124, 48)]) (hl : XLe K0 K) (hc : c ≤ mc) (hs : s ≤ ms) (h : xw0_failed_B42 Post mc ms x0 x1 x2 x3 s0 s1 K u c s) : JJ X (AX K0 sz) (jj_Q X (va_Qi (fun (r : Int32) (w : XK × XS) => Post r w.1 w.2) (jx_BA D dA K0 sz) (AX K0 sz)) mc ms (AX K0 sz)) 6 (XP D dA (AX K0 sz) K u) c s 42 [(0, .ref x0), (1, .int x1), (2, .int x2), (3, .int x3)] [.int s0, .ref s1] := by
  unfold xw0_failed_B42 at h
  obtain ⟨k42, h⟩ := h
  refine xp0_7 hX hY k42 dX0_failed_42 q418 45 rfl (fun u42 e42 => ?_)
  have h := h u42 e42
  refine jj_aload_n hX dX0_failed_45 0 rfl 46 rfl ?_
  obtain ⟨k46, h⟩ := h
  refine xg0_7 hX hY k46 dX0_failed_46 q418 49 rfl ?_
  refine jj_if_le hX dX0_failed_49 54 52 (by decide) rfl (fun c49 => ?_) (fun c49 => ?_)
  · have h := h.1 c49
    refine jj_aload_n hX dX0_failed_54 0 rfl 55 rfl ?_
    refine jj_iload_n hX dX0_failed_55 1 rfl 56 rfl ?_
    obtain ⟨m56, w56, hc56, hs56, h⟩ := h
    refine kxw0_on hX hY k46 q579 (Nat.le_of_ble_eq_true rfl) (Nat.le_of_ble_eq_true rfl) hc56 hs56 (Nat.le_of_ble_eq_true rfl) dX0_failed_56 59 rfl h (fun q56 K56 u56 hle56 h => jt_cs (k2 := (c + m56)) (n2 := (s + w56)) (by simp) (by simp) ?_) (fun r56 K56 u56 hle56 h => jj_cs (k2 := (c + m56)) (n2 := (s + w56)) (by simp) (by simp) ?_)
    · have k56 := hle56.at k42 (by simp)
      have k56_1 := hle56.at k46 (by simp)
      have hl56 := hl.tr hle56
      refine jt_catch0 (nm := "RaisedPress$Refused") hX hY.2.1 hE rfl (by decide) q239 nq241 ?_
      refine jj_astore (lv2 := [(0, .ref x0), (4, .ref q56)]) hX dX0_failed_124 (Nat.le_of_ble_eq_true rfl) [1, 0] rfl 126 rfl ?_
      refine jj_aload_n hX dX0_failed_126 0 rfl 127 rfl ?_
      refine jj_aload hX dX0_failed_127 1 rfl 129 rfl ?_
      refine kxw0_none hX hY k56_1 q598 (Nat.le_of_ble_eq_true rfl) (Nat.le_of_ble_eq_true rfl) hc56 hs56 (Nat.le_of_ble_eq_true rfl) dX0_failed_129 132 rfl h (fun r129 u129 h => ?_)
      exact jj_reti (post := (fun (r : Int32) (w : XK × XS) => Post r w.1 w.2)) (u := (K56, u129)) hX dX0_failed_132 hc56 hs56 (jx_hBA hl56) h
    · have k56 := hle56.at k42 (by simp)
      have k56_1 := hle56.at k46 (by simp)
      have hl56 := hl.tr hle56
      refine jj_astore (lv2 := [(0, .ref x0), (1, .int x1), (2, .int x2), (3, .int x3), (4, .ref r56)]) hX dX0_failed_59 (Nat.le_of_ble_eq_true rfl) [1, 2, 3, 4, 0] rfl 61 rfl ?_
      refine jj_aload_n hX dX0_failed_61 0 rfl 62 rfl ?_
      refine jj_iload_n hX dX0_failed_62 2 rfl 63 rfl ?_
      obtain ⟨m63, w63, hc63, hs63, h⟩ := h
      refine kxw0_on hX hY k56_1 q579 (Nat.le_of_ble_eq_true rfl) (Nat.le_of_ble_eq_true rfl) hc63 hs63 (Nat.le_of_ble_eq_true rfl) dX0_failed_63 66 rfl h (fun q63 K63 u63 hle63 h => jt_cs (k2 := ((c + m56) + m63)) (n2 := ((s + w56) + w63)) (by simp) (by simp) ?_) (fun r63 K63 u63 hle63 h => jj_cs (k2 := ((c + m56) + m63)) (n2 := ((s + w56) + w63)) (by simp) (by simp) ?_)
      · have k63 := hle63.at k56 (by simp)
        have k63_1 := hle63.at k56_1 (by simp)
        have hl63 := hl56.tr hle63
        refine jt_catch0 (nm := "RaisedPress$Refused") hX hY.2.1 hE rfl (by decide) q239 nq241 ?_
        refine jj_astore (lv2 := [(0, .ref x0), (4, .ref q63)]) hX dX0_failed_124 (Nat.le_of_ble_eq_true rfl) [1, 0] rfl 126 rfl ?_
        refine jj_aload_n hX dX0_failed_126 0 rfl 127 rfl ?_
        refine jj_aload hX dX0_failed_127 1 rfl 129 rfl ?_
        refine kxw0_none hX hY k63_1 q598 (Nat.le_of_ble_eq_true rfl) (Nat.le_of_ble_eq_true rfl) hc63 hs63 (Nat.le_of_ble_eq_true rfl) dX0_failed_129 132 rfl h (fun r129 u129 h => ?_)
        exact jj_reti (post := (fun (r : Int32) (w : XK × XS) => Post r w.1 w.2)) (u := (K63, u129)) hX dX0_failed_132 hc63 hs63 (jx_hBA hl63) h
      · have k63 := hle63.at k56 (by simp)
        have k63_1 := hle63.at k56_1 (by simp)
        have hl63 := hl56.tr hle63
        refine jj_astore (lv2 := [(0, .ref x0), (1, .int x1), (2, .int x2), (3, .int x3), (4, .ref r56), (5, .ref r63)]) hX dX0_failed_66 (Nat.le_of_ble_eq_true rfl) [1, 2, 3, 4, 5, 0] rfl 68 rfl ?_
        refine jj_aload_n hX dX0_failed_68 0 rfl 69 rfl ?_
        refine jj_aload hX dX0_failed_69 4 rfl 71 rfl ?_
        refine kxw0_sizeOf hX hY q1319 (Nat.le_of_ble_eq_true rfl) (Nat.le_of_ble_eq_true rfl) hc63 hs63 (Nat.le_of_ble_eq_true rfl) dX0_failed_71 74 rfl h (fun r71 u71 h => ?_)
        refine jj_iload_n hX dX0_failed_74 3 rfl 75 rfl ?_
        refine jj_icmp_lt hX dX0_failed_75 91 78 (by decide) rfl (fun c75 => ?_) (fun c75 => ?_)
        · have h := h.1 c75
          refine jj_iconst hX dX0_failed_91 ci_0 92 rfl ?_
          refine jj_sub (lv2 := [(0, .ref x0), (1, .int x1), (2, .int x2), (3, .int x3)]) [0, 1, 2, 3] rfl ?_
          exact txw0_failed_B92 hX hY hE hl63 hc63 hs63 h
        · have h := h.2 c75
          refine jj_aload hX dX0_failed_78 5 rfl 80 rfl ?_
          refine kxw0_sizeOf hX hY q1319 (Nat.le_of_ble_eq_true rfl) (Nat.le_of_ble_eq_true rfl) hc63 hs63 (Nat.le_of_ble_eq_true rfl) dX0_failed_80 83 rfl h (fun r80 u80 h => ?_)
          refine jj_iload_n hX dX0_failed_83 3 rfl 84 rfl ?_
          refine jj_icmp_lt hX dX0_failed_84 91 87 (by decide) rfl (fun c84 => ?_) (fun c84 => ?_)
          · have h := h.1 c84
            refine jj_iconst hX dX0_failed_91 ci_0 92 rfl ?_
            refine jj_sub (lv2 := [(0, .ref x0), (1, .int x1), (2, .int x2), (3, .int x3)]) [0, 1, 2, 3] rfl ?_
            exact txw0_failed_B92 hX hY hE hl63 hc63 hs63 h
          · have h := h.2 c84
            refine jj_iconst hX dX0_failed_87 ci_1 88 rfl ?_
            refine jj_goto hX dX0_failed_88 92 (by decide) ?_
            refine jj_sub (lv2 := [(0, .ref x0), (1, .int x1), (2, .int x2), (3, .int x3)]) [0, 1, 2, 3] rfl ?_
            exact txw0_failed_B92 hX hY hE hl63 hc63 hs63 h
  · have h := h.2 c49
    refine jj_iconst hX dX0_failed_52 ci_m1 53 rfl ?_
    exact jj_reti (post := (fun (r : Int32) (w : XK × XS) => Post r w.1 w.2)) (u := (K, u42)) hX dX0_failed_53 hc hs (jx_hBA hl) h
set_option maxHeartbeats 4000000 in
set_option maxRecDepth 100000 in
theorem mxw0_failed (l : Launch) (hfl : l.stackTraces = false) (D : va_G) (dA aK aV : Nat → Nat) (x0 : Nat) (x1 : Int32) (x2 : Int32) (x3 : Int32) (K : XK) (u : XS) (mc ms : Nat) (Post : Int32 → XK → XS → Prop) (h : xw0_failed x0 x1 x2 x3 K u mc ms Post) (sz : Nat) : Met l yX0_failed (wsW_ yX0_failed cX0_failed 6 (Option.some Jvm.ClassFile.FieldType.int) [(54, 123, 124, 48)]) (jx_rm 10 10296 mc ms) (jx_Pc D dA aK aV K u sz [.ref x0, .int x1, .int x2, .int x3]) (va_Qi (fun (r : Int32) (w : XK × XS) => Post r w.1 w.2) (jx_BA D dA K sz) (AX K sz)) mc ms (AX K sz) := by
  refine jx_startW hfl [.ref x0, .int x1, .int x2, .int x3] [(0, .ref x0), (1, .int x1), (2, .int x2), (3, .int x3)] (by decide) (Nat.le_of_ble_eq_true rfl) rfl (fun X hX hY hE => ?_)
  unfold xw0_failed at h
  refine jj_aload_n hX dX0_failed_0 0 rfl 1 rfl ?_
  refine jj_iload_n hX dX0_failed_1 1 rfl 2 rfl ?_
  refine jj_i2l hX dX0_failed_2 3 rfl ?_
  refine jj_lconst (v := 0) hX dX0_failed_3 (by decide) 4 rfl ?_
  refine jj_ldc2 (v := 3) hX dX0_failed_4 q1317 7 rfl ?_
  refine kxs_isIn hX XP.keeps q1074 (Nat.le_of_ble_eq_true rfl) (Nat.le_of_ble_eq_true rfl) (Nat.zero_le _) (Nat.zero_le _) (Nat.le_of_ble_eq_true rfl) dX0_failed_7 10 rfl h (fun r7 hb7 h => ?_)
  refine jj_if_eq hX dX0_failed_10 41 13 (by decide) rfl (fun c10 => ?_) (fun c10 => ?_)
  · have h := h.1 c10
    refine jj_iconst hX dX0_failed_41 ci_1 42 rfl ?_
    exact txw0_failed_B42 hX hY hE XLe.rf (Nat.zero_le _) (Nat.zero_le _) h
  · have h := h.2 c10
    refine jj_iload_n hX dX0_failed_13 2 rfl 14 rfl ?_
    refine jj_i2l hX dX0_failed_14 15 rfl ?_
    refine jj_lconst (v := 0) hX dX0_failed_15 (by decide) 16 rfl ?_
    refine jj_ldc2 (v := 3) hX dX0_failed_16 q1317 19 rfl ?_
    refine kxs_isIn hX XP.keeps q1074 (Nat.le_of_ble_eq_true rfl) (Nat.le_of_ble_eq_true rfl) (Nat.zero_le _) (Nat.zero_le _) (Nat.le_of_ble_eq_true rfl) dX0_failed_19 22 rfl h (fun r19 hb19 h => ?_)
    refine jj_if_eq hX dX0_failed_22 41 25 (by decide) rfl (fun c22 => ?_) (fun c22 => ?_)
    · have h := h.1 c22
      refine jj_iconst hX dX0_failed_41 ci_1 42 rfl ?_
      exact txw0_failed_B42 hX hY hE XLe.rf (Nat.zero_le _) (Nat.zero_le _) h
    · have h := h.2 c22
      refine jj_iload_n hX dX0_failed_25 3 rfl 26 rfl ?_
      refine jj_i2l hX dX0_failed_26 27 rfl ?_
      refine jj_lconst (v := 1) hX dX0_failed_27 (by decide) 28 rfl ?_
      refine jj_ldc2 (v := 20) hX dX0_failed_28 q1318 31 rfl ?_
      refine kxs_isIn hX XP.keeps q1074 (Nat.le_of_ble_eq_true rfl) (Nat.le_of_ble_eq_true rfl) (Nat.zero_le _) (Nat.zero_le _) (Nat.le_of_ble_eq_true rfl) dX0_failed_31 34 rfl h (fun r31 hb31 h => ?_)
      refine jj_if_eq hX dX0_failed_34 41 37 (by decide) rfl (fun c34 => ?_) (fun c34 => ?_)
      · have h := h.1 c34
        refine jj_iconst hX dX0_failed_41 ci_1 42 rfl ?_
        exact txw0_failed_B42 hX hY hE XLe.rf (Nat.zero_le _) (Nat.zero_le _) h
      · have h := h.2 c34
        refine jj_iconst hX dX0_failed_37 ci_0 38 rfl ?_
        refine jj_goto hX dX0_failed_38 42 (by decide) ?_
        exact txw0_failed_B42 hX hY hE XLe.rf (Nat.zero_le _) (Nat.zero_le _) h
theorem hd_xw0_failed : yX0_failed.cls ≠ "java/lang/invoke/MethodHandle" ∧ yX0_failed.cls ≠ "java/lang/invoke/VarHandle" ∧ (parseMethodDescriptor yX0_failed.desc).map (fun d => d.parameters.length) = some 3 := by decide +kernel
theorem kxw0_failed {X : JC} {A : Nat → Prop} {Q : State → Prop} {nL k n pc : Nat} {lv : List (Nat × Value)} {st : List Value} {own : String} {cc : ByteArray} {ret : Option FieldType} {F LL mc ms ix mc2 ms2 : Nat} {D : va_G} {dA aK aV : Nat → Nat} {K : XK} {u : XS} {x0 : Nat} {x1 : Int32} {x2 : Int32} {x3 : Int32} {Post : Int32 → XK → XS → Prop} (hX : JX X own cc nL ret F LL mc ms) (hY : JY X D dA aK aV A) (h1a : K x0 = (1, 0)) (hlk : (Cond.methodLink own ix yX0_failed) ∈ lw_all) (hF : 10 + 1 ≤ F) (hL : 8 + (6 + 11) + 10296 ≤ LL) (hk : k + mc2 ≤ mc) (hk2 : n + ms2 ≤ ms) (hw : (st.map fun v => v.category).sum ≤ 8) (d : decode cc pc = .ok (.invokevirtual ix, 3)) (q : Nat) (hq : pc + 3 = q) (h : xw0_failed x0 x1 x2 x3 K u mc2 ms2 Post) (kk : ∀ (r : Int32) (K2 : XK) (u2 : XS), XLe K K2 → Post r K2 u2 → JJ X A Q nL (XP D dA A K2 u2) (k + mc2) (n + ms2) q lv (.int r :: st)) : JJ X A Q nL (XP D dA A K u) k n pc lv (.int x3 :: .int x2 :: .int x1 :: .ref x0 :: st) :=
  jx_callWVi (na := 3) (As := [.int x1, .int x2, .int x3]) hX hY jf0 h1a (fun sz => mxw0_failed (jj_l X) hY.2.2.2.2 D dA aK aV x0 x1 x2 x3 K u mc2 ms2 Post h sz) hlk q1361 q1362 q120 q1363 ⟨rfl, hd_xw0_failed⟩ rfl rfl hw hF hL hk hk2 d q hq kk
/-- RaisedPress.mirrored(I)I -/
def xs_mirrored (x0 : Int32) (Post : Int32 → Prop) : Prop :=
  Post (((x0 &&& (7 : Int32)) <<< ((3 : Int32) &&& 31)) ||| (x0 >>> ((3 : Int32) &&& 31)))
set_option maxHeartbeats 4000000 in
set_option maxRecDepth 100000 in
theorem mxs_mirrored (l : Launch) (x0 : Int32) (Post : Int32 → Prop) (h : xs_mirrored x0 Post) : Met l yX0_mirrored (ws_ yX0_mirrored cX0_mirrored 1 (Option.some Jvm.ClassFile.FieldType.int)) (jm_rm 0 0) (js_Pc [.int x0]) (va_Qi (fun r (_ : Unit) => Post r) js_B js_A) 0 0 js_A := by
  refine js_start [.int x0] [(0, .int x0)] (by decide) (Nat.le_of_ble_eq_true rfl) rfl (fun X hX => ?_)
  unfold xs_mirrored at h
  refine jj_iload_n hX dX0_mirrored_0 0 rfl 1 rfl ?_
  refine jj_bipush hX dX0_mirrored_1 cb_7 3 rfl ?_
  refine jj_iand hX dX0_mirrored_3 4 rfl ?_
  refine jj_iconst hX dX0_mirrored_4 ci_3 5 rfl ?_
  refine jj_ishl hX dX0_mirrored_5 6 rfl ?_
  refine jj_iload_n hX dX0_mirrored_6 0 rfl 7 rfl ?_
  refine jj_iconst hX dX0_mirrored_7 ci_3 8 rfl ?_
  refine jj_ishr hX dX0_mirrored_8 9 rfl ?_
  refine jj_ior hX dX0_mirrored_9 10 rfl ?_
  exact jj_reti (post := (fun r (_ : Unit) => Post r)) (u := ()) hX dX0_mirrored_10 (Nat.le_refl 0) (Nat.le_refl 0) js_hB h
theorem hd_xs_mirrored : yX0_mirrored.cls ≠ "java/lang/invoke/MethodHandle" ∧ yX0_mirrored.cls ≠ "java/lang/invoke/VarHandle" ∧ (parseMethodDescriptor yX0_mirrored.desc).map (fun d => d.parameters.length) = some 1 := by decide +kernel
theorem kxs_mirrored {X : JC} {A : Nat → Prop} {Q : State → Prop} {P : Heap → Prop} {nL k n pc : Nat} {lv : List (Nat × Value)} {st : List Value} {own : String} {cc : ByteArray} {ret : Option FieldType} {F LL mc ms ix : Nat} {x0 : Int32} {Post : Int32 → Prop} (hX : JX X own cc nL ret F LL mc ms) (hKP : jj_Keeps P) (hlk : (Cond.methodLink own ix yX0_mirrored) ∈ lw_all) (hF : 0 + 1 ≤ F) (hL : 8 + (1 + 11) + 0 ≤ LL) (hk : k ≤ mc) (hk2 : n ≤ ms) (hw : (st.map fun v => v.category).sum ≤ 8) (d : decode cc pc = .ok (.invokestatic ix, 3)) (q : Nat) (hq : pc + 3 = q) (h : xs_mirrored x0 Post) (kk : ∀ r : Int32, Post r → JJ X A Q nL P k n q lv (.int r :: st)) : JJ X A Q nL P k n pc lv (.int x0 :: st) :=
  js_calli (na := 1) (As := [.int x0]) hX hKP (mxs_mirrored (jj_l X) x0 Post h) hlk q1369 q120 q1370 hd_xs_mirrored rfl rfl hw hF hL hk hk2 d q hq kk
theorem knxs_mirrored {X : JC} {A : Nat → Prop} {Q : State → Prop} {P : Heap → Prop} {nL k n pc : Nat} {lv : List (Nat × Value)} {st : List Value} {own host : String} {cc : ByteArray} {ret : Option FieldType} {F LL mc ms ix : Nat} {x0 : Int32} {Post : Int32 → Prop} (hX : JX X own cc nL ret F LL mc ms) (hKP : jj_Keeps P) (hN : JN (jj_s X)) (hlk : (Cond.methodLinkNest own ix yX0_mirrored host) ∈ jx_nest) (hF : 0 + 1 ≤ F) (hL : 8 + (1 + 11) + 0 ≤ LL) (hk : k ≤ mc) (hk2 : n ≤ ms) (hw : (st.map fun v => v.category).sum ≤ 8) (d : decode cc pc = .ok (.invokestatic ix, 3)) (q : Nat) (hq : pc + 3 = q) (h : xs_mirrored x0 Post) (kk : ∀ r : Int32, Post r → JJ X A Q nL P k n q lv (.int r :: st)) : JJ X A Q nL P k n pc lv (.int x0 :: st) :=
  js_callNi (na := 1) (As := [.int x0]) hX hKP hN (mxs_mirrored (jj_l X) x0 Post h) hlk q1369 q120 q1370 hd_xs_mirrored rfl rfl hw hF hL hk hk2 d q hq kk
def xw0_mirror_B18 (Post : Int32 → XS → Prop) (K : XK) (x0 : Nat) (x1 : Int32) (s0 : Int32) (s1 : Nat) (u : XS) : Prop :=
  K s1 = (1, 0) ∧
  ∀ u18 : XS, u18 = xsi u s1 7 s0 →
  K x0 = (1, 0) ∧
  ((xi u18 x0 7) ≤ 0 →
    xs_mirrored x1 (fun r33 =>
      Post r33 u18)) ∧
  (¬ (xi u18 x0 7) ≤ 0 →
    Post (-1 : Int32) u18)
/-- RaisedPress.mirror(I)I -/
def xw0_mirror (x0 : Nat) (x1 : Int32) (K : XK) (u : XS) (Post : Int32 → XS → Prop) : Prop :=
  xs_isIn x1.toInt64 (0 : Int64) (63 : Int64) (fun r7 =>
    (r7 = 0 →
      xw0_mirror_B18 Post K x0 x1 (1 : Int32) x0 u) ∧
    (¬ r7 = 0 →
      xw0_mirror_B18 Post K x0 x1 (0 : Int32) x0 u))
set_option maxHeartbeats 4000000 in
set_option maxRecDepth 100000 in
theorem txw0_mirror_B18 {X : JC} {D : va_G} {dA aK aV : Nat → Nat} {sz : Nat} {K : XK} {Post : Int32 → XS → Prop} {x0 : Nat} {x1 : Int32} {s0 : Int32} {s1 : Nat} {u : XS} (hX : JX X yX0_mirror.cls cX0_mirror 2 (Option.some Jvm.ClassFile.FieldType.int) 1 25 0 0) (hY : JY X D dA aK aV (AX K sz)) (h : xw0_mirror_B18 Post K x0 x1 s0 s1 u) : JJ X (AX K sz) (jj_Q X (va_Qi (fun (r : Int32) (w : XS) => Post r w) (jx_B D dA K) (AX K sz)) 0 0 (AX K sz)) 2 (XP D dA (AX K sz) K u) 0 0 18 [(0, .ref x0), (1, .int x1)] [.int s0, .ref s1] := by
  unfold xw0_mirror_B18 at h
  obtain ⟨k18, h⟩ := h
  refine xp0_7 hX hY k18 dX0_mirror_18 q418 21 rfl (fun u18 e18 => ?_)
  have h := h u18 e18
  refine jj_aload_n hX dX0_mirror_21 0 rfl 22 rfl ?_
  obtain ⟨k22, h⟩ := h
  refine xg0_7 hX hY k22 dX0_mirror_22 q418 25 rfl ?_
  refine jj_if_le hX dX0_mirror_25 32 28 (by decide) rfl (fun c25 => ?_) (fun c25 => ?_)
  · have h := h.1 c25
    refine jj_iload_n hX dX0_mirror_32 1 rfl 33 rfl ?_
    refine kxs_mirrored hX XP.keeps q1368 (Nat.le_of_ble_eq_true rfl) (Nat.le_of_ble_eq_true rfl) (Nat.zero_le _) (Nat.zero_le _) (Nat.le_of_ble_eq_true rfl) dX0_mirror_33 36 rfl h (fun r33 h => ?_)
    exact jj_reti (post := (fun (r : Int32) (w : XS) => Post r w)) (u := u18) hX dX0_mirror_36 (Nat.le_refl 0) (Nat.le_refl 0) jx_hB h
  · have h := h.2 c25
    refine jj_iconst hX dX0_mirror_28 ci_m1 29 rfl ?_
    refine jj_goto hX dX0_mirror_29 36 (by decide) ?_
    exact jj_reti (post := (fun (r : Int32) (w : XS) => Post r w)) (u := u18) hX dX0_mirror_36 (Nat.le_refl 0) (Nat.le_refl 0) jx_hB h
set_option maxHeartbeats 4000000 in
set_option maxRecDepth 100000 in
theorem mxw0_mirror (l : Launch) (hfl : l.stackTraces = false) (D : va_G) (dA aK aV : Nat → Nat) (x0 : Nat) (x1 : Int32) (K : XK) (u : XS) (Post : Int32 → XS → Prop) (h : xw0_mirror x0 x1 K u Post) (sz : Nat) : Met l yX0_mirror (ws_ yX0_mirror cX0_mirror 2 (Option.some Jvm.ClassFile.FieldType.int)) (jx_rm 1 25 0 0) (jx_Pc D dA aK aV K u sz [.ref x0, .int x1]) (va_Qi (fun (r : Int32) (w : XS) => Post r w) (jx_B D dA K) (AX K sz)) 0 0 (AX K sz) := by
  refine jx_start hfl [.ref x0, .int x1] [(0, .ref x0), (1, .int x1)] (by decide) (Nat.le_of_ble_eq_true rfl) rfl (fun X hX hY hin => ?_)
  unfold xw0_mirror at h
  refine jj_aload_n hX dX0_mirror_0 0 rfl 1 rfl ?_
  refine jj_iload_n hX dX0_mirror_1 1 rfl 2 rfl ?_
  refine jj_i2l hX dX0_mirror_2 3 rfl ?_
  refine jj_lconst (v := 0) hX dX0_mirror_3 (by decide) 4 rfl ?_
  refine jj_ldc2 (v := 63) hX dX0_mirror_4 q1283 7 rfl ?_
  refine kxs_isIn hX XP.keeps q1074 (Nat.le_of_ble_eq_true rfl) (Nat.le_of_ble_eq_true rfl) (Nat.zero_le _) (Nat.zero_le _) (Nat.le_of_ble_eq_true rfl) dX0_mirror_7 10 rfl h (fun r7 hb7 h => ?_)
  refine jj_if_eq hX dX0_mirror_10 17 13 (by decide) rfl (fun c10 => ?_) (fun c10 => ?_)
  · have h := h.1 c10
    refine jj_iconst hX dX0_mirror_17 ci_1 18 rfl ?_
    exact txw0_mirror_B18 hX hY h
  · have h := h.2 c10
    refine jj_iconst hX dX0_mirror_13 ci_0 14 rfl ?_
    refine jj_goto hX dX0_mirror_14 18 (by decide) ?_
    exact txw0_mirror_B18 hX hY h
theorem hd_xw0_mirror : yX0_mirror.cls ≠ "java/lang/invoke/MethodHandle" ∧ yX0_mirror.cls ≠ "java/lang/invoke/VarHandle" ∧ (parseMethodDescriptor yX0_mirror.desc).map (fun d => d.parameters.length) = some 1 := by decide +kernel
theorem kxw0_mirror {X : JC} {A : Nat → Prop} {Q : State → Prop} {nL k n pc : Nat} {lv : List (Nat × Value)} {st : List Value} {own : String} {cc : ByteArray} {ret : Option FieldType} {F LL mc ms ix : Nat} {D : va_G} {dA aK aV : Nat → Nat} {K : XK} {u : XS} {x0 : Nat} {x1 : Int32} {Post : Int32 → XS → Prop} (hX : JX X own cc nL ret F LL mc ms) (hY : JY X D dA aK aV A) (h1a : K x0 = (1, 0)) (hlk : (Cond.methodLink own ix yX0_mirror) ∈ lw_all) (hF : 1 + 1 ≤ F) (hL : 8 + (2 + 11) + 25 ≤ LL) (hk : k ≤ mc) (hk2 : n ≤ ms) (hw : (st.map fun v => v.category).sum ≤ 8) (d : decode cc pc = .ok (.invokevirtual ix, 3)) (q : Nat) (hq : pc + 3 = q) (h : xw0_mirror x0 x1 K u  Post) (kk : ∀ (r : Int32) (u2 : XS), Post r u2 → JJ X A Q nL (XP D dA A K u2) k n q lv (.int r :: st)) : JJ X A Q nL (XP D dA A K u) k n pc lv (.int x1 :: .ref x0 :: st) :=
  jx_callVi (na := 1) (As := [.int x1]) hX hY jf0 h1a (fun sz => mxw0_mirror (jj_l X) hY.2.2.2.2 D dA aK aV x0 x1 K u  Post h sz) hlk q1365 q1366 q120 q1367 ⟨rfl, hd_xw0_mirror⟩ rfl rfl hw hF hL hk hk2 d q hq kk
theorem knxw0_mirror {X : JC} {A : Nat → Prop} {Q : State → Prop} {nL k n pc : Nat} {lv : List (Nat × Value)} {st : List Value} {own : String} {cc : ByteArray} {ret : Option FieldType} {F LL mc ms ix : Nat} {D : va_G} {dA aK aV : Nat → Nat} {K : XK} {u : XS} {x0 : Nat} {x1 : Int32} {host : String} {Post : Int32 → XS → Prop} (hX : JX X own cc nL ret F LL mc ms) (hY : JY X D dA aK aV A) (h1a : K x0 = (1, 0)) (hlk : (Cond.methodLinkNest own ix yX0_mirror host) ∈ jx_nest) (hF : 1 + 1 ≤ F) (hL : 8 + (2 + 11) + 25 ≤ LL) (hk : k ≤ mc) (hk2 : n ≤ ms) (hw : (st.map fun v => v.category).sum ≤ 8) (d : decode cc pc = .ok (.invokevirtual ix, 3)) (q : Nat) (hq : pc + 3 = q) (h : xw0_mirror x0 x1 K u  Post) (kk : ∀ (r : Int32) (u2 : XS), Post r u2 → JJ X A Q nL (XP D dA A K u2) k n q lv (.int r :: st)) : JJ X A Q nL (XP D dA A K u) k n pc lv (.int x1 :: .ref x0 :: st) :=
  jx_callNi (na := 1) (As := [.int x1]) hX hY jf0 h1a (fun sz => mxw0_mirror (jj_l X) hY.2.2.2.2 D dA aK aV x0 x1 K u  Post h sz) hlk q1365 q1366 q120 q1367 hd_xw0_mirror rfl rfl hw hF hL hk hk2 d q hq kk
def xw0_isTurned_L25_S (Post : Int32 → XS → Prop) (K : XK) (x0 : Nat) (x1 : Int32) (x2 : Int32) (R : Int32 → XS → Prop) (x3 : Int32) (u : XS) : Prop :=
  K x0 = (1, 0) ∧
  xw0_at x0 x1 K u (fun r28 u28 =>
    xRule K r28 ∧
    ∃ b34, (xr u28 r28 1) = some b34 ∧
    ∃ n34, K b34 = (2, n34) ∧
    ((nI n34) ≤ x3 →
      Post (1 : Int32) u28) ∧
    (¬ (nI n34) ≤ x3 →
      xw0_at x0 x2 K u28 (fun r40 u40 =>
        xRule K r40 ∧
        ∃ b47, (xr u40 r40 1) = some b47 ∧
        ∃ n47, K b47 = (2, n47) ∧
        vp_in x3 n47 ∧
        xw0_at x0 x1 K u40 (fun r50 u50 =>
          xRule K r50 ∧
          ∃ b57, (xr u50 r50 1) = some b57 ∧
          ∃ n57, K b57 = (2, n57) ∧
          vp_in x3 n57 ∧
          xs_mirrored (xi u50 b57 x3.toNatClampNeg) (fun r58 =>
            ((xi u40 b47 x3.toNatClampNeg) = r58 →
              ∀ v66 : Int32, v66 = x3 + (1 : Int32) →
              R v66 u50) ∧
            (¬ (xi u40 b47 x3.toNatClampNeg) = r58 →
              Post (0 : Int32) u50))))))
def xw0_isTurned_L25 (Post : Int32 → XS → Prop) (K : XK) (x0 : Nat) (x1 : Int32) (x2 : Int32) : Nat → Int32 → XS → Prop
  | 0 => fun _ _ => False
  | n + 1 => fun x3 u => xw0_isTurned_L25_S Post K x0 x1 x2 (xw0_isTurned_L25 Post K x0 x1 x2 n) x3 u
/-- RaisedPress.isTurned(II)Z -/
def xw0_isTurned (x0 : Nat) (x1 : Int32) (x2 : Int32) (K : XK) (u : XS) (Post : Int32 → XS → Prop) : Prop :=
  K x0 = (1, 0) ∧
  xw0_at x0 x1 K u (fun r2 u2 =>
    xRule K r2 ∧
    ∃ b8, (xr u2 r2 1) = some b8 ∧
    ∃ n8, K b8 = (2, n8) ∧
    xw0_at x0 x2 K u2 (fun r11 u11 =>
      xRule K r11 ∧
      ∃ b17, (xr u11 r11 1) = some b17 ∧
      ∃ n17, K b17 = (2, n17) ∧
      ((nI n8) = (nI n17) →
        ∃ n, xw0_isTurned_L25 Post K x0 x1 x2 n (0 : Int32) u11) ∧
      (¬ (nI n8) = (nI n17) →
        Post (0 : Int32) u11)))
set_option maxHeartbeats 4000000 in
set_option maxRecDepth 100000 in
theorem txw0_isTurned_L25 {X : JC} {D : va_G} {dA aK aV : Nat → Nat} {sz : Nat} {K : XK} {Post : Int32 → XS → Prop} {x0 : Nat} {x1 : Int32} {x2 : Int32} (hX : JX X yX0_isTurned.cls cX0_isTurned 4 (Option.some Jvm.ClassFile.FieldType.boolean) 1 21 0 0) (hY : JY X D dA aK aV (AX K sz)) : ∀ (n : Nat) (x3 : Int32) (u : XS), xw0_isTurned_L25 Post K x0 x1 x2 n x3 u → JJ X (AX K sz) (jj_Q X (va_Qi (fun (r : Int32) (w : XS) => Post r w ∧ jj_z r) (jx_B D dA K) (AX K sz)) 0 0 (AX K sz)) 4 (XP D dA (AX K sz) K u) 0 0 25 [(0, .ref x0), (1, .int x1), (2, .int x2), (3, .int x3)] [] := by
  intro n
  induction n with
  | zero =>
    intro x3 u h
    exact h.elim
  | succ n ih =>
    intro x3 u h
    have h : xw0_isTurned_L25_S Post K x0 x1 x2 (xw0_isTurned_L25 Post K x0 x1 x2 n) x3 u := h
    unfold xw0_isTurned_L25_S at h
    refine jj_iload_n hX dX0_isTurned_25 3 rfl 26 rfl ?_
    refine jj_aload_n hX dX0_isTurned_26 0 rfl 27 rfl ?_
    refine jj_iload_n hX dX0_isTurned_27 1 rfl 28 rfl ?_
    obtain ⟨k28, h⟩ := h
    refine kxw0_at hX hY k28 q1090 (Nat.le_of_ble_eq_true rfl) (Nat.le_of_ble_eq_true rfl) (Nat.zero_le _) (Nat.zero_le _) (Nat.le_of_ble_eq_true rfl) dX0_isTurned_28 31 rfl h (fun r28 u28 h => ?_)
    obtain ⟨k31, h⟩ := h
    refine xgr_1 hX hY k31 dX0_isTurned_31 q777 34 rfl ?_
    obtain ⟨b34, g34, h⟩ := h
    refine jj_st (st2 := [.ref b34, .int x3]) (by rw [va_rf_some g34]) ?_
    obtain ⟨n34, k34, h⟩ := h
    refine jx_alen hX hY.1 k34 dX0_isTurned_34 35 rfl ?_
    refine jj_icmp_ge hX dX0_isTurned_35 72 38 (by decide) rfl (fun c35 => ?_) (fun c35 => ?_)
    · have h := h.1 c35
      refine jj_iconst hX dX0_isTurned_72 ci_1 73 rfl ?_
      exact jj_retz (post := (fun (r : Int32) (w : XS) => Post r w)) (u := u28) hX dX0_isTurned_73 (Nat.le_refl 0) (Nat.le_refl 0) jx_hB jj_z1 h
    · have h := h.2 c35
      refine jj_aload_n hX dX0_isTurned_38 0 rfl 39 rfl ?_
      refine jj_iload_n hX dX0_isTurned_39 2 rfl 40 rfl ?_
      refine kxw0_at hX hY k28 q1090 (Nat.le_of_ble_eq_true rfl) (Nat.le_of_ble_eq_true rfl) (Nat.zero_le _) (Nat.zero_le _) (Nat.le_of_ble_eq_true rfl) dX0_isTurned_40 43 rfl h (fun r40 u40 h => ?_)
      obtain ⟨k43, h⟩ := h
      refine xgr_1 hX hY k43 dX0_isTurned_43 q777 46 rfl ?_
      refine jj_iload_n hX dX0_isTurned_46 3 rfl 47 rfl ?_
      obtain ⟨b47, g47, h⟩ := h
      refine jj_st (st2 := [.int x3, .ref b47]) (by rw [va_rf_some g47]) ?_
      obtain ⟨n47, k47, h⟩ := h
      obtain ⟨hi47, h⟩ := h
      refine jx_iald hX hY.1 k47 _ rfl hi47 dX0_isTurned_47 48 rfl ?_
      refine jj_aload_n hX dX0_isTurned_48 0 rfl 49 rfl ?_
      refine jj_iload_n hX dX0_isTurned_49 1 rfl 50 rfl ?_
      refine kxw0_at hX hY k28 q1090 (Nat.le_of_ble_eq_true rfl) (Nat.le_of_ble_eq_true rfl) (Nat.zero_le _) (Nat.zero_le _) (Nat.le_of_ble_eq_true rfl) dX0_isTurned_50 53 rfl h (fun r50 u50 h => ?_)
      obtain ⟨k53, h⟩ := h
      refine xgr_1 hX hY k53 dX0_isTurned_53 q777 56 rfl ?_
      refine jj_iload_n hX dX0_isTurned_56 3 rfl 57 rfl ?_
      obtain ⟨b57, g57, h⟩ := h
      refine jj_st (st2 := [.int x3, .ref b57, .int (xi u40 b47 x3.toNatClampNeg)]) (by rw [va_rf_some g57]) ?_
      obtain ⟨n57, k57, h⟩ := h
      obtain ⟨hi57, h⟩ := h
      refine jx_iald hX hY.1 k57 _ rfl hi57 dX0_isTurned_57 58 rfl ?_
      refine kxs_mirrored hX XP.keeps q1368 (Nat.le_of_ble_eq_true rfl) (Nat.le_of_ble_eq_true rfl) (Nat.zero_le _) (Nat.zero_le _) (Nat.le_of_ble_eq_true rfl) dX0_isTurned_58 61 rfl h (fun r58 h => ?_)
      refine jj_icmp_eq hX dX0_isTurned_61 66 64 (by decide) rfl (fun c61 => ?_) (fun c61 => ?_)
      · have h := h.1 c61
        obtain ⟨v66, e66⟩ : ∃ y : Int32, y = x3 + (1 : Int32) := ⟨_, rfl⟩
        have h := h v66 e66
        refine jj_iinc (v := v66) (lv2 := [(0, .ref x0), (1, .int x1), (2, .int x2), (3, .int v66)]) hX dX0_isTurned_66 3 rfl (by rw [e66, ci_1]) (Nat.le_of_ble_eq_true rfl) [1, 2, 3, 0] rfl 69 rfl ?_
        refine jj_goto hX dX0_isTurned_69 25 (by decide) ?_
        exact ih _ _ h
      · have h := h.2 c61
        refine jj_iconst hX dX0_isTurned_64 ci_0 65 rfl ?_
        exact jj_retz (post := (fun (r : Int32) (w : XS) => Post r w)) (u := u50) hX dX0_isTurned_65 (Nat.le_refl 0) (Nat.le_refl 0) jx_hB jj_z0 h
set_option maxHeartbeats 4000000 in
set_option maxRecDepth 100000 in
theorem mxw0_isTurned (l : Launch) (hfl : l.stackTraces = false) (D : va_G) (dA aK aV : Nat → Nat) (x0 : Nat) (x1 : Int32) (x2 : Int32) (K : XK) (u : XS) (Post : Int32 → XS → Prop) (h : xw0_isTurned x0 x1 x2 K u Post) (sz : Nat) : Met l yX0_isTurned (ws_ yX0_isTurned cX0_isTurned 4 (Option.some Jvm.ClassFile.FieldType.boolean)) (jx_rm 1 21 0 0) (jx_Pc D dA aK aV K u sz [.ref x0, .int x1, .int x2]) (va_Qi (fun (r : Int32) (w : XS) => Post r w ∧ jj_z r) (jx_B D dA K) (AX K sz)) 0 0 (AX K sz) := by
  refine jx_start hfl [.ref x0, .int x1, .int x2] [(0, .ref x0), (1, .int x1), (2, .int x2)] (by decide) (Nat.le_of_ble_eq_true rfl) rfl (fun X hX hY hin => ?_)
  unfold xw0_isTurned at h
  refine jj_aload_n hX dX0_isTurned_0 0 rfl 1 rfl ?_
  refine jj_iload_n hX dX0_isTurned_1 1 rfl 2 rfl ?_
  obtain ⟨k2, h⟩ := h
  refine kxw0_at hX hY k2 q1090 (Nat.le_of_ble_eq_true rfl) (Nat.le_of_ble_eq_true rfl) (Nat.zero_le _) (Nat.zero_le _) (Nat.le_of_ble_eq_true rfl) dX0_isTurned_2 5 rfl h (fun r2 u2 h => ?_)
  obtain ⟨k5, h⟩ := h
  refine xgr_1 hX hY k5 dX0_isTurned_5 q777 8 rfl ?_
  obtain ⟨b8, g8, h⟩ := h
  refine jj_st (st2 := [.ref b8]) (by rw [va_rf_some g8]) ?_
  obtain ⟨n8, k8, h⟩ := h
  refine jx_alen hX hY.1 k8 dX0_isTurned_8 9 rfl ?_
  refine jj_aload_n hX dX0_isTurned_9 0 rfl 10 rfl ?_
  refine jj_iload_n hX dX0_isTurned_10 2 rfl 11 rfl ?_
  refine kxw0_at hX hY k2 q1090 (Nat.le_of_ble_eq_true rfl) (Nat.le_of_ble_eq_true rfl) (Nat.zero_le _) (Nat.zero_le _) (Nat.le_of_ble_eq_true rfl) dX0_isTurned_11 14 rfl h (fun r11 u11 h => ?_)
  obtain ⟨k14, h⟩ := h
  refine xgr_1 hX hY k14 dX0_isTurned_14 q777 17 rfl ?_
  obtain ⟨b17, g17, h⟩ := h
  refine jj_st (st2 := [.ref b17, .int (nI n8)]) (by rw [va_rf_some g17]) ?_
  obtain ⟨n17, k17, h⟩ := h
  refine jx_alen hX hY.1 k17 dX0_isTurned_17 18 rfl ?_
  refine jj_icmp_eq hX dX0_isTurned_18 23 21 (by decide) rfl (fun c18 => ?_) (fun c18 => ?_)
  · have h := h.1 c18
    refine jj_iconst hX dX0_isTurned_23 ci_0 24 rfl ?_
    refine jj_istore_n (lv2 := [(0, .ref x0), (1, .int x1), (2, .int x2), (3, .int (0 : Int32))]) hX dX0_isTurned_24 (Nat.le_of_ble_eq_true rfl) [1, 2, 3, 0] rfl 25 rfl ?_
    obtain ⟨n9, h⟩ := h
    exact txw0_isTurned_L25 hX hY n9 _ _ h
  · have h := h.2 c18
    refine jj_iconst hX dX0_isTurned_21 ci_0 22 rfl ?_
    exact jj_retz (post := (fun (r : Int32) (w : XS) => Post r w)) (u := u11) hX dX0_isTurned_22 (Nat.le_refl 0) (Nat.le_refl 0) jx_hB jj_z0 h
theorem hd_xw0_isTurned : yX0_isTurned.cls ≠ "java/lang/invoke/MethodHandle" ∧ yX0_isTurned.cls ≠ "java/lang/invoke/VarHandle" ∧ (parseMethodDescriptor yX0_isTurned.desc).map (fun d => d.parameters.length) = some 2 := by decide +kernel
theorem kxw0_isTurned {X : JC} {A : Nat → Prop} {Q : State → Prop} {nL k n pc : Nat} {lv : List (Nat × Value)} {st : List Value} {own : String} {cc : ByteArray} {ret : Option FieldType} {F LL mc ms ix : Nat} {D : va_G} {dA aK aV : Nat → Nat} {K : XK} {u : XS} {x0 : Nat} {x1 : Int32} {x2 : Int32} {Post : Int32 → XS → Prop} (hX : JX X own cc nL ret F LL mc ms) (hY : JY X D dA aK aV A) (h1a : K x0 = (1, 0)) (hlk : (Cond.methodLink own ix yX0_isTurned) ∈ lw_all) (hF : 1 + 1 ≤ F) (hL : 8 + (4 + 11) + 21 ≤ LL) (hk : k ≤ mc) (hk2 : n ≤ ms) (hw : (st.map fun v => v.category).sum ≤ 8) (d : decode cc pc = .ok (.invokevirtual ix, 3)) (q : Nat) (hq : pc + 3 = q) (h : xw0_isTurned x0 x1 x2 K u  Post) (kk : ∀ (r : Int32) (u2 : XS), jj_z r → Post r u2 → JJ X A Q nL (XP D dA A K u2) k n q lv (.int r :: st)) : JJ X A Q nL (XP D dA A K u) k n pc lv (.int x2 :: .int x1 :: .ref x0 :: st) :=
  jx_callVz (na := 2) (As := [.int x1, .int x2]) hX hY jf0 h1a (fun sz => mxw0_isTurned (jj_l X) hY.2.2.2.2 D dA aK aV x0 x1 x2 K u  Post h sz) hlk q1377 qs51 q120 q1378 ⟨rfl, hd_xw0_isTurned⟩ rfl rfl hw hF hL hk hk2 d q hq kk
theorem knxw0_isTurned {X : JC} {A : Nat → Prop} {Q : State → Prop} {nL k n pc : Nat} {lv : List (Nat × Value)} {st : List Value} {own : String} {cc : ByteArray} {ret : Option FieldType} {F LL mc ms ix : Nat} {D : va_G} {dA aK aV : Nat → Nat} {K : XK} {u : XS} {x0 : Nat} {x1 : Int32} {x2 : Int32} {host : String} {Post : Int32 → XS → Prop} (hX : JX X own cc nL ret F LL mc ms) (hY : JY X D dA aK aV A) (h1a : K x0 = (1, 0)) (hlk : (Cond.methodLinkNest own ix yX0_isTurned host) ∈ jx_nest) (hF : 1 + 1 ≤ F) (hL : 8 + (4 + 11) + 21 ≤ LL) (hk : k ≤ mc) (hk2 : n ≤ ms) (hw : (st.map fun v => v.category).sum ≤ 8) (d : decode cc pc = .ok (.invokevirtual ix, 3)) (q : Nat) (hq : pc + 3 = q) (h : xw0_isTurned x0 x1 x2 K u  Post) (kk : ∀ (r : Int32) (u2 : XS), jj_z r → Post r u2 → JJ X A Q nL (XP D dA A K u2) k n q lv (.int r :: st)) : JJ X A Q nL (XP D dA A K u) k n pc lv (.int x2 :: .int x1 :: .ref x0 :: st) :=
  jx_callNz (na := 2) (As := [.int x1, .int x2]) hX hY jf0 h1a (fun sz => mxw0_isTurned (jj_l X) hY.2.2.2.2 D dA aK aV x0 x1 x2 K u  Post h sz) hlk q1377 qs51 q120 q1378 hd_xw0_isTurned rfl rfl hw hF hL hk hk2 d q hq kk
def xw0_turned_L28_S (Post : Int32 → XS → Prop) (K : XK) (x0 : Nat) (x1 : Int32) (R : Int32 → XS → Prop) (x2 : Int32) (u : XS) : Prop :=
  K x0 = (1, 0) ∧
  xw0_table x0 K u (fun r30 u30 =>
    K r30 = (1, 5) ∧
    ((xi u30 r30 1) ≤ x2 →
      xw0_answer x0 (-1 : Int32) K u30 (fun r58 u58 =>
        Post r58 u58)) ∧
    (¬ (xi u30 r30 1) ≤ x2 →
      xw0_isTurned x0 x1 x2 K u30 (fun r42 u42 =>
        (r42 = 0 →
          ∀ v50 : Int32, v50 = x2 + (1 : Int32) →
          R v50 u42) ∧
        (¬ r42 = 0 →
          Post x2 u42))))
def xw0_turned_L28 (Post : Int32 → XS → Prop) (K : XK) (x0 : Nat) (x1 : Int32) : Nat → Int32 → XS → Prop
  | 0 => fun _ _ => False
  | n + 1 => fun x2 u => xw0_turned_L28_S Post K x0 x1 (xw0_turned_L28 Post K x0 x1 n) x2 u
/-- RaisedPress.turned(I)I -/
def xw0_turned (x0 : Nat) (x1 : Int32) (K : XK) (u : XS) (Post : Int32 → XS → Prop) : Prop :=
  K x0 = (1, 0) ∧
  xw0_isRule x0 x1 K u (fun r3 u3 =>
    (r3 = 0 →
      ∀ u14 : XS, u14 = xsi u3 x0 7 (1 : Int32) →
      ((xi u14 x0 7) ≤ 0 →
        ∃ n, xw0_turned_L28 Post K x0 x1 n (0 : Int32) u14) ∧
      (¬ (xi u14 x0 7) ≤ 0 →
        Post (-1 : Int32) u14)) ∧
    (¬ r3 = 0 →
      ∀ u14 : XS, u14 = xsi u3 x0 7 (0 : Int32) →
      ((xi u14 x0 7) ≤ 0 →
        ∃ n, xw0_turned_L28 Post K x0 x1 n (0 : Int32) u14) ∧
      (¬ (xi u14 x0 7) ≤ 0 →
        Post (-1 : Int32) u14)))
set_option maxHeartbeats 4000000 in
set_option maxRecDepth 100000 in
theorem txw0_turned_L28 {X : JC} {D : va_G} {dA aK aV : Nat → Nat} {sz : Nat} {K : XK} {Post : Int32 → XS → Prop} {x0 : Nat} {x1 : Int32} (hX : JX X yX0_turned.cls cX0_turned 3 (Option.some Jvm.ClassFile.FieldType.int) 2 46 0 0) (hY : JY X D dA aK aV (AX K sz)) : ∀ (n : Nat) (x2 : Int32) (u : XS), xw0_turned_L28 Post K x0 x1 n x2 u → JJ X (AX K sz) (jj_Q X (va_Qi (fun (r : Int32) (w : XS) => Post r w) (jx_B D dA K) (AX K sz)) 0 0 (AX K sz)) 3 (XP D dA (AX K sz) K u) 0 0 28 [(0, .ref x0), (1, .int x1), (2, .int x2)] [] := by
  intro n
  induction n with
  | zero =>
    intro x2 u h
    exact h.elim
  | succ n ih =>
    intro x2 u h
    have h : xw0_turned_L28_S Post K x0 x1 (xw0_turned_L28 Post K x0 x1 n) x2 u := h
    unfold xw0_turned_L28_S at h
    refine jj_iload_n hX dX0_turned_28 2 rfl 29 rfl ?_
    refine jj_aload_n hX dX0_turned_29 0 rfl 30 rfl ?_
    obtain ⟨k30, h⟩ := h
    refine kxw0_table hX hY k30 q879 (Nat.le_of_ble_eq_true rfl) (Nat.le_of_ble_eq_true rfl) (Nat.zero_le _) (Nat.zero_le _) (Nat.le_of_ble_eq_true rfl) dX0_turned_30 33 rfl h (fun r30 u30 h => ?_)
    obtain ⟨k33, h⟩ := h
    refine xgn5_1 hX hY k33 dX0_turned_33 nq279 36 rfl ?_
    refine jj_icmp_ge hX dX0_turned_36 56 39 (by decide) rfl (fun c36 => ?_) (fun c36 => ?_)
    · have h := h.1 c36
      refine jj_aload_n hX dX0_turned_56 0 rfl 57 rfl ?_
      refine jj_iconst hX dX0_turned_57 ci_m1 58 rfl ?_
      refine kxw0_answer hX hY k30 q1077 (Nat.le_of_ble_eq_true rfl) (Nat.le_of_ble_eq_true rfl) (Nat.zero_le _) (Nat.zero_le _) (Nat.le_of_ble_eq_true rfl) dX0_turned_58 61 rfl h (fun r58 u58 h => ?_)
      exact jj_reti (post := (fun (r : Int32) (w : XS) => Post r w)) (u := u58) hX dX0_turned_61 (Nat.le_refl 0) (Nat.le_refl 0) jx_hB h
    · have h := h.2 c36
      refine jj_aload_n hX dX0_turned_39 0 rfl 40 rfl ?_
      refine jj_iload_n hX dX0_turned_40 1 rfl 41 rfl ?_
      refine jj_iload_n hX dX0_turned_41 2 rfl 42 rfl ?_
      refine kxw0_isTurned hX hY k30 q1375 (Nat.le_of_ble_eq_true rfl) (Nat.le_of_ble_eq_true rfl) (Nat.zero_le _) (Nat.zero_le _) (Nat.le_of_ble_eq_true rfl) dX0_turned_42 45 rfl h (fun r42 u42 hb42 h => ?_)
      refine jj_if_eq hX dX0_turned_45 50 48 (by decide) rfl (fun c45 => ?_) (fun c45 => ?_)
      · have h := h.1 c45
        obtain ⟨v50, e50⟩ : ∃ y : Int32, y = x2 + (1 : Int32) := ⟨_, rfl⟩
        have h := h v50 e50
        refine jj_iinc (v := v50) (lv2 := [(0, .ref x0), (1, .int x1), (2, .int v50)]) hX dX0_turned_50 2 rfl (by rw [e50, ci_1]) (Nat.le_of_ble_eq_true rfl) [1, 2, 0] rfl 53 rfl ?_
        refine jj_goto hX dX0_turned_53 28 (by decide) ?_
        exact ih _ _ h
      · have h := h.2 c45
        refine jj_iload_n hX dX0_turned_48 2 rfl 49 rfl ?_
        exact jj_reti (post := (fun (r : Int32) (w : XS) => Post r w)) (u := u42) hX dX0_turned_49 (Nat.le_refl 0) (Nat.le_refl 0) jx_hB h
set_option maxHeartbeats 4000000 in
set_option maxRecDepth 100000 in
theorem mxw0_turned (l : Launch) (hfl : l.stackTraces = false) (D : va_G) (dA aK aV : Nat → Nat) (x0 : Nat) (x1 : Int32) (K : XK) (u : XS) (Post : Int32 → XS → Prop) (h : xw0_turned x0 x1 K u Post) (sz : Nat) : Met l yX0_turned (ws_ yX0_turned cX0_turned 3 (Option.some Jvm.ClassFile.FieldType.int)) (jx_rm 2 46 0 0) (jx_Pc D dA aK aV K u sz [.ref x0, .int x1]) (va_Qi (fun (r : Int32) (w : XS) => Post r w) (jx_B D dA K) (AX K sz)) 0 0 (AX K sz) := by
  refine jx_start hfl [.ref x0, .int x1] [(0, .ref x0), (1, .int x1)] (by decide) (Nat.le_of_ble_eq_true rfl) rfl (fun X hX hY hin => ?_)
  unfold xw0_turned at h
  refine jj_aload_n hX dX0_turned_0 0 rfl 1 rfl ?_
  refine jj_aload_n hX dX0_turned_1 0 rfl 2 rfl ?_
  refine jj_iload_n hX dX0_turned_2 1 rfl 3 rfl ?_
  obtain ⟨k3, h⟩ := h
  refine kxw0_isRule hX hY k3 q1085 (Nat.le_of_ble_eq_true rfl) (Nat.le_of_ble_eq_true rfl) (Nat.zero_le _) (Nat.zero_le _) (Nat.le_of_ble_eq_true rfl) dX0_turned_3 6 rfl h (fun r3 u3 hb3 h => ?_)
  refine jj_if_eq hX dX0_turned_6 13 9 (by decide) rfl (fun c6 => ?_) (fun c6 => ?_)
  · have h := h.1 c6
    refine jj_iconst hX dX0_turned_13 ci_1 14 rfl ?_
    refine xp0_7 hX hY k3 dX0_turned_14 q418 17 rfl (fun u14 e14 => ?_)
    have h := h u14 e14
    refine jj_aload_n hX dX0_turned_17 0 rfl 18 rfl ?_
    refine xg0_7 hX hY k3 dX0_turned_18 q418 21 rfl ?_
    refine jj_if_le hX dX0_turned_21 26 24 (by decide) rfl (fun c21 => ?_) (fun c21 => ?_)
    · have h := h.1 c21
      refine jj_iconst hX dX0_turned_26 ci_0 27 rfl ?_
      refine jj_istore_n (lv2 := [(0, .ref x0), (1, .int x1), (2, .int (0 : Int32))]) hX dX0_turned_27 (Nat.le_of_ble_eq_true rfl) [1, 2, 0] rfl 28 rfl ?_
      obtain ⟨n9, h⟩ := h
      exact txw0_turned_L28 hX hY n9 _ _ h
    · have h := h.2 c21
      refine jj_iconst hX dX0_turned_24 ci_m1 25 rfl ?_
      exact jj_reti (post := (fun (r : Int32) (w : XS) => Post r w)) (u := u14) hX dX0_turned_25 (Nat.le_refl 0) (Nat.le_refl 0) jx_hB h
  · have h := h.2 c6
    refine jj_iconst hX dX0_turned_9 ci_0 10 rfl ?_
    refine jj_goto hX dX0_turned_10 14 (by decide) ?_
    refine xp0_7 hX hY k3 dX0_turned_14 q418 17 rfl (fun u14 e14 => ?_)
    have h := h u14 e14
    refine jj_aload_n hX dX0_turned_17 0 rfl 18 rfl ?_
    refine xg0_7 hX hY k3 dX0_turned_18 q418 21 rfl ?_
    refine jj_if_le hX dX0_turned_21 26 24 (by decide) rfl (fun c21 => ?_) (fun c21 => ?_)
    · have h := h.1 c21
      refine jj_iconst hX dX0_turned_26 ci_0 27 rfl ?_
      refine jj_istore_n (lv2 := [(0, .ref x0), (1, .int x1), (2, .int (0 : Int32))]) hX dX0_turned_27 (Nat.le_of_ble_eq_true rfl) [1, 2, 0] rfl 28 rfl ?_
      obtain ⟨n9, h⟩ := h
      exact txw0_turned_L28 hX hY n9 _ _ h
    · have h := h.2 c21
      refine jj_iconst hX dX0_turned_24 ci_m1 25 rfl ?_
      exact jj_reti (post := (fun (r : Int32) (w : XS) => Post r w)) (u := u14) hX dX0_turned_25 (Nat.le_refl 0) (Nat.le_refl 0) jx_hB h
theorem hd_xw0_turned : yX0_turned.cls ≠ "java/lang/invoke/MethodHandle" ∧ yX0_turned.cls ≠ "java/lang/invoke/VarHandle" ∧ (parseMethodDescriptor yX0_turned.desc).map (fun d => d.parameters.length) = some 1 := by decide +kernel
theorem kxw0_turned {X : JC} {A : Nat → Prop} {Q : State → Prop} {nL k n pc : Nat} {lv : List (Nat × Value)} {st : List Value} {own : String} {cc : ByteArray} {ret : Option FieldType} {F LL mc ms ix : Nat} {D : va_G} {dA aK aV : Nat → Nat} {K : XK} {u : XS} {x0 : Nat} {x1 : Int32} {Post : Int32 → XS → Prop} (hX : JX X own cc nL ret F LL mc ms) (hY : JY X D dA aK aV A) (h1a : K x0 = (1, 0)) (hlk : (Cond.methodLink own ix yX0_turned) ∈ lw_all) (hF : 2 + 1 ≤ F) (hL : 8 + (3 + 11) + 46 ≤ LL) (hk : k ≤ mc) (hk2 : n ≤ ms) (hw : (st.map fun v => v.category).sum ≤ 8) (d : decode cc pc = .ok (.invokevirtual ix, 3)) (q : Nat) (hq : pc + 3 = q) (h : xw0_turned x0 x1 K u  Post) (kk : ∀ (r : Int32) (u2 : XS), Post r u2 → JJ X A Q nL (XP D dA A K u2) k n q lv (.int r :: st)) : JJ X A Q nL (XP D dA A K u) k n pc lv (.int x1 :: .ref x0 :: st) :=
  jx_callVi (na := 1) (As := [.int x1]) hX hY jf0 h1a (fun sz => mxw0_turned (jj_l X) hY.2.2.2.2 D dA aK aV x0 x1 K u  Post h sz) hlk q1372 q1373 q120 q1374 ⟨rfl, hd_xw0_turned⟩ rfl rfl hw hF hL hk hk2 d q hq kk
theorem knxw0_turned {X : JC} {A : Nat → Prop} {Q : State → Prop} {nL k n pc : Nat} {lv : List (Nat × Value)} {st : List Value} {own : String} {cc : ByteArray} {ret : Option FieldType} {F LL mc ms ix : Nat} {D : va_G} {dA aK aV : Nat → Nat} {K : XK} {u : XS} {x0 : Nat} {x1 : Int32} {host : String} {Post : Int32 → XS → Prop} (hX : JX X own cc nL ret F LL mc ms) (hY : JY X D dA aK aV A) (h1a : K x0 = (1, 0)) (hlk : (Cond.methodLinkNest own ix yX0_turned host) ∈ jx_nest) (hF : 2 + 1 ≤ F) (hL : 8 + (3 + 11) + 46 ≤ LL) (hk : k ≤ mc) (hk2 : n ≤ ms) (hw : (st.map fun v => v.category).sum ≤ 8) (d : decode cc pc = .ok (.invokevirtual ix, 3)) (q : Nat) (hq : pc + 3 = q) (h : xw0_turned x0 x1 K u  Post) (kk : ∀ (r : Int32) (u2 : XS), Post r u2 → JJ X A Q nL (XP D dA A K u2) k n q lv (.int r :: st)) : JJ X A Q nL (XP D dA A K u) k n pc lv (.int x1 :: .ref x0 :: st) :=
  jx_callNi (na := 1) (As := [.int x1]) hX hY jf0 h1a (fun sz => mxw0_turned (jj_l X) hY.2.2.2.2 D dA aK aV x0 x1 K u  Post h sz) hlk q1372 q1373 q120 q1374 hd_xw0_turned rfl rfl hw hF hL hk hk2 d q hq kk
