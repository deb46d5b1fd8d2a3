set_option linter.unusedVariables false
/-- RaisedPress$Setter.cut([II)[I -/
def xw6_cut (x0 : Nat) (x1 : Nat) (x2 : Int32) (K : XK) (u : XS) (mc ms : Nat) (Post : Nat → XK → XS → Prop) : Prop :=
  ¬ x2 < 0 ∧ x2.toNatClampNeg * 8 ≤ 536870912 ∧ 1 ≤ mc ∧ (0 + x2.toNatClampNeg) ≤ ms ∧ ∀ (b1 : Nat) (K1 : XK) (u1 : XS), (K b1).1 = 0 → K1 = xup K b1 (2, x2.toNatClampNeg) → u1 = xz u b1 →
  ∃ n9, K1 x1 = (2, n9) ∧
  ¬ (0 : Int32) < 0 ∧ ¬ (0 : Int32) < 0 ∧ ¬ x2 < 0 ∧ (0 : Int32).toNatClampNeg + x2.toNatClampNeg ≤ n9 ∧ (0 : Int32).toNatClampNeg + x2.toNatClampNeg ≤ x2.toNatClampNeg ∧ ∀ u9 : XS, u9 = xcp u1 x1 (0 : Int32).toNatClampNeg b1 (0 : Int32).toNatClampNeg x2.toNatClampNeg →
  Post b1 K1 u9
set_option maxHeartbeats 4000000 in
set_option maxRecDepth 100000 in
theorem mxw6_cut (l : Launch) (hfl : l.stackTraces = false) (D : va_G) (dA aK aV : Nat → Nat) (x0 : Nat) (x1 : Nat) (x2 : Int32) (K : XK) (u : XS) (mc ms : Nat) (Post : Nat → XK → XS → Prop) (h : xw6_cut x0 x1 x2 K u mc ms Post) (sz : Nat) : Met l yX6_cut (ws_ yX6_cut cX6_cut 4 (Option.some (Jvm.ClassFile.FieldType.array Jvm.ClassFile.FieldType.int))) (jx_rm 1 60 mc ms) (jx_Pc D dA aK aV K u sz [.ref x0, .ref x1, .int x2]) (jx_Qr (fun (r : Nat) (w : XK × XS) => Post r w.1 w.2) (jx_BA D dA K sz) (AX K sz)) mc ms (AX K sz) := by
  refine jx_start hfl [.ref x0, .ref x1, .int x2] [(0, .ref x0), (1, .ref x1), (2, .int x2)] (by decide) (Nat.le_of_ble_eq_true rfl) rfl (fun X hX hY hin => ?_)
  unfold xw6_cut at h
  refine jj_iload_n hX dX6_cut_0 2 rfl 1 rfl ?_
  obtain ⟨hn1, hm1, h⟩ := h
  obtain ⟨hc1, hs1, h⟩ := h
  refine jx_na0 hX hY hn1 _ rfl hm1 hc1 hs1 dX6_cut_1 3 rfl (fun b1 K1 u1 hb1 eK1 e1 => ?_)
  have h := h b1 K1 u1 hb1 eK1 e1
  have hleb1 : XLe K K1 := by rw [eK1]; exact XLe.up hb1
  have hl1 := XLe.rf.tr hleb1
  have k1 : K1 b1 = (2, x2.toNatClampNeg) := by rw [eK1]; exact xup_at
  refine jj_cs (k2 := 1) (n2 := (0 + x2.toNatClampNeg)) rfl rfl ?_
  refine jj_astore_n (lv2 := [(1, .ref x1), (2, .int x2), (3, .ref b1)]) hX dX6_cut_3 (Nat.le_of_ble_eq_true rfl) [2, 3, 0] rfl 4 rfl ?_
  refine jj_aload_n hX dX6_cut_4 0 rfl 5 rfl ?_
  refine jj_iconst hX dX6_cut_5 ci_0 6 rfl ?_
  refine jj_aload_n hX dX6_cut_6 2 rfl 7 rfl ?_
  refine jj_iconst hX dX6_cut_7 ci_0 8 rfl ?_
  refine jj_iload_n hX dX6_cut_8 1 rfl 9 rfl ?_
  obtain ⟨n9, k9, h⟩ := h
  obtain ⟨g9, g9_1, g9_2, g9_3, g9_4, h⟩ := h
  refine jx_copyi hX hY k9 k1 (by decide) q992 g9 g9_1 g9_2 g9_3 g9_4 (Nat.le_of_ble_eq_true rfl) (by decide) (Nat.le_of_ble_eq_true rfl) dX6_cut_9 12 rfl (fun u9 e9 => ?_)
  have h := h u9 e9
  refine jj_aload_n hX dX6_cut_12 2 rfl 13 rfl ?_
  exact jj_retr (post := (fun (r : Nat) (w : XK × XS) => Post r w.1 w.2)) (u := (K1, u9)) hX (by first | exact Or.inl ⟨_, rfl⟩ | exact Or.inr ⟨_, rfl⟩) dX6_cut_13 hc1 hs1 (jx_hBA hl1) h
theorem hd_xw6_cut : yX6_cut.cls ≠ "java/lang/invoke/MethodHandle" ∧ yX6_cut.cls ≠ "java/lang/invoke/VarHandle" ∧ (parseMethodDescriptor yX6_cut.desc).map (fun d => d.parameters.length) = some 2 := by decide +kernel
theorem kxw6_cut {X : JC} {A : Nat → Prop} {Q : State → Prop} {nL k n pc : Nat} {lv : List (Nat × Value)} {st : List Value} {own : String} {cc : ByteArray} {ret : Option FieldType} {F LL mc ms ix mc2 ms2 : Nat} {D : va_G} {dA aK aV : Nat → Nat} {K : XK} {u : XS} {x0 : Nat} {x1 : Nat} {x2 : Int32} {Post : Nat → XK → XS → Prop} (hX : JX X own cc nL ret F LL mc ms) (hY : JY X D dA aK aV A) (h1a : K x0 = (1, 6)) (hlk : (Cond.methodLink own ix yX6_cut) ∈ lw_all) (hF : 1 + 1 ≤ F) (hL : 8 + (4 + 11) + 60 ≤ LL) (hk : k + mc2 ≤ mc) (hk2 : n + ms2 ≤ ms) (hw : (st.map fun v => v.category).sum ≤ 8) (d : decode cc pc = .ok (.invokevirtual ix, 3)) (q : Nat) (hq : pc + 3 = q) (h : xw6_cut x0 x1 x2 K u mc2 ms2 Post) (kk : ∀ (r : Nat) (K2 : XK) (u2 : XS), XLe K K2 → Post r K2 u2 → JJ X A Q nL (XP D dA A K2 u2) (k + mc2) (n + ms2) q lv (.ref r :: st)) : JJ X A Q nL (XP D dA A K u) k n pc lv (.int x2 :: .ref x1 :: .ref x0 :: st) :=
  jx_callVrA (na := 2) (As := [.ref x1, .int x2]) hX hY jf6 h1a (fun sz => mxw6_cut (jj_l X) hY.2.2.2.2 D dA aK aV x0 x1 x2 K u mc2 ms2 Post h sz) hlk q1063 qs31 q128 q1064 ⟨rfl, hd_xw6_cut⟩ rfl rfl hw hF hL hk hk2 d q hq kk
theorem knxw6_cut {X : JC} {A : Nat → Prop} {Q : State → Prop} {nL k n pc : Nat} {lv : List (Nat × Value)} {st : List Value} {own : String} {cc : ByteArray} {ret : Option FieldType} {F LL mc ms ix mc2 ms2 : Nat} {D : va_G} {dA aK aV : Nat → Nat} {K : XK} {u : XS} {x0 : Nat} {x1 : Nat} {x2 : Int32} {host : String} {Post : Nat → XK → XS → Prop} (hX : JX X own cc nL ret F LL mc ms) (hY : JY X D dA aK aV A) (h1a : K x0 = (1, 6)) (hlk : (Cond.methodLinkNest own ix yX6_cut host) ∈ jx_nest) (hF : 1 + 1 ≤ F) (hL : 8 + (4 + 11) + 60 ≤ LL) (hk : k + mc2 ≤ mc) (hk2 : n + ms2 ≤ ms) (hw : (st.map fun v => v.category).sum ≤ 8) (d : decode cc pc = .ok (.invokevirtual ix, 3)) (q : Nat) (hq : pc + 3 = q) (h : xw6_cut x0 x1 x2 K u mc2 ms2 Post) (kk : ∀ (r : Nat) (K2 : XK) (u2 : XS), XLe K K2 → Post r K2 u2 → JJ X A Q nL (XP D dA A K2 u2) (k + mc2) (n + ms2) q lv (.ref r :: st)) : JJ X A Q nL (XP D dA A K u) k n pc lv (.int x2 :: .ref x1 :: .ref x0 :: st) :=
  jx_callNrA (na := 2) (As := [.ref x1, .int x2]) hX hY jf6 h1a (fun sz => mxw6_cut (jj_l X) hY.2.2.2.2 D dA aK aV x0 x1 x2 K u mc2 ms2 Post h sz) hlk q1063 qs31 q128 q1064 hd_xw6_cut rfl rfl hw hF hL hk hk2 d q hq kk
def xw6_told_B54 (Post : Nat → XK → XS → Prop) (mc ms : Nat) (x0 : Nat) (K : XK) (u : XS) (c s : Nat) : Prop :=
  K x0 = (1, 6) ∧
  ¬ (xi u x0 3) < 0 ∧ (xi u x0 3).toNatClampNeg * 8 ≤ 536870912 ∧ (c + 1) ≤ mc ∧ (s + (xi u x0 3).toNatClampNeg) ≤ ms ∧ ∀ (b58 : Nat) (K58 : XK) (u58 : XS), (K b58).1 = 0 → K58 = xup K b58 (3, (xi u x0 3).toNatClampNeg) → u58 = xz u b58 →
  ∃ b72, (xr u58 x0 2) = some b72 ∧
  ∃ n72, K58 b72 = (3, n72) ∧
  ¬ (0 : Int32) < 0 ∧ ¬ (0 : Int32) < 0 ∧ ¬ (xi u58 x0 3) < 0 ∧ (0 : Int32).toNatClampNeg + (xi u58 x0 3).toNatClampNeg ≤ n72 ∧ (0 : Int32).toNatClampNeg + (xi u58 x0 3).toNatClampNeg ≤ (xi u x0 3).toNatClampNeg ∧ ∀ u72 : XS, u72 = xcp u58 b72 (0 : Int32).toNatClampNeg b58 (0 : Int32).toNatClampNeg (xi u58 x0 3).toNatClampNeg →
  ((c + 1) + 1) ≤ mc ∧ ((s + (xi u x0 3).toNatClampNeg) + 13) ≤ ms ∧ ∀ (b75 : Nat) (K75 : XK) (u75 : XS), (K58 b75).1 = 0 → K75 = xup K58 b75 (1, 15) → u75 = xz u72 b75 →
  ∃ m80 w80, (((c + 1) + 1) + m80) ≤ mc ∧ (((s + (xi u x0 3).toNatClampNeg) + 13) + w80) ≤ ms ∧ xw15_init b75 b58 K75 u75 m80 w80 (fun K80 u80 =>
    ∃ b94, (xr u80 x0 8) = some b94 ∧
    ∃ m94 w94, ((((c + 1) + 1) + m80) + m94) ≤ mc ∧ ((((s + (xi u x0 3).toNatClampNeg) + 13) + w80) + w94) ≤ ms ∧ xw6_cut x0 b94 (xi u80 x0 4) K80 u80 m94 w94 (fun r94 K94 u94 =>
      ∀ u97 : XS, u97 = xsr u94 b75 1 (some r94) →
      ∃ b110, (xr u97 x0 9) = some b110 ∧
      ∃ m110 w110, (((((c + 1) + 1) + m80) + m94) + m110) ≤ mc ∧ (((((s + (xi u x0 3).toNatClampNeg) + 13) + w80) + w94) + w110) ≤ ms ∧ xw6_cut x0 b110 (xi u97 x0 5) K94 u97 m110 w110 (fun r110 K110 u110 =>
        ∀ u113 : XS, u113 = xsr u110 b75 2 (some r110) →
        ∃ b126, (xr u113 x0 10) = some b126 ∧
        ∃ m126 w126, ((((((c + 1) + 1) + m80) + m94) + m110) + m126) ≤ mc ∧ ((((((s + (xi u x0 3).toNatClampNeg) + 13) + w80) + w94) + w110) + w126) ≤ ms ∧ xw6_cut x0 b126 (xi u113 x0 5) K110 u113 m126 w126 (fun r126 K126 u126 =>
          ∀ u129 : XS, u129 = xsr u126 b75 3 (some r126) →
          ∃ b142, (xr u129 x0 11) = some b142 ∧
          ∃ m142 w142, (((((((c + 1) + 1) + m80) + m94) + m110) + m126) + m142) ≤ mc ∧ (((((((s + (xi u x0 3).toNatClampNeg) + 13) + w80) + w94) + w110) + w126) + w142) ≤ ms ∧ xw6_cut x0 b142 (xi u129 x0 5) K126 u129 m142 w142 (fun r142 K142 u142 =>
            ∀ u145 : XS, u145 = xsr u142 b75 4 (some r142) →
            ∃ b158, (xr u145 x0 12) = some b158 ∧
            ∃ m158 w158, ((((((((c + 1) + 1) + m80) + m94) + m110) + m126) + m142) + m158) ≤ mc ∧ ((((((((s + (xi u x0 3).toNatClampNeg) + 13) + w80) + w94) + w110) + w126) + w142) + w158) ≤ ms ∧ xw6_cut x0 b158 (xi u145 x0 5) K142 u145 m158 w158 (fun r158 K158 u158 =>
              ∀ u161 : XS, u161 = xsr u158 b75 5 (some r158) →
              ∃ b174, (xr u161 x0 13) = some b174 ∧
              ∃ m174 w174, (((((((((c + 1) + 1) + m80) + m94) + m110) + m126) + m142) + m158) + m174) ≤ mc ∧ (((((((((s + (xi u x0 3).toNatClampNeg) + 13) + w80) + w94) + w110) + w126) + w142) + w158) + w174) ≤ ms ∧ xw6_cut x0 b174 (xi u161 x0 4) K158 u161 m174 w174 (fun r174 K174 u174 =>
                ∀ u177 : XS, u177 = xsr u174 b75 6 (some r174) →
                ∃ b190, (xr u177 x0 15) = some b190 ∧
                ∃ m190 w190, ((((((((((c + 1) + 1) + m80) + m94) + m110) + m126) + m142) + m158) + m174) + m190) ≤ mc ∧ ((((((((((s + (xi u x0 3).toNatClampNeg) + 13) + w80) + w94) + w110) + w126) + w142) + w158) + w174) + w190) ≤ ms ∧ xw6_cut x0 b190 (xi u177 x0 17) K174 u177 m190 w190 (fun r190 K190 u190 =>
                  ∀ u193 : XS, u193 = xsr u190 b75 7 (some r190) →
                  ∃ b208, (xr u193 x0 16) = some b208 ∧
                  ∃ m208 w208, (((((((((((c + 1) + 1) + m80) + m94) + m110) + m126) + m142) + m158) + m174) + m190) + m208) ≤ mc ∧ (((((((((((s + (xi u x0 3).toNatClampNeg) + 13) + w80) + w94) + w110) + w126) + w142) + w158) + w174) + w190) + w208) ≤ ms ∧ xw6_cut x0 b208 ((xi u193 x0 18) + (1 : Int32)) K190 u193 m208 w208 (fun r208 K208 u208 =>
                    ∀ u211 : XS, u211 = xsr u208 b75 8 (some r208) →
                    ∃ b226, (xr u211 b75 9) = some b226 ∧
                    ∃ b226_1, (xr u211 x0 14) = some b226_1 ∧
                    ∃ n226, K208 b226_1 = (2, n226) ∧
                    ∃ n226_1, K208 b226 = (2, n226_1) ∧
                    ¬ (0 : Int32) < 0 ∧ ¬ (0 : Int32) < 0 ∧ ¬ (24 : Int32) < 0 ∧ (0 : Int32).toNatClampNeg + (24 : Int32).toNatClampNeg ≤ n226 ∧ (0 : Int32).toNatClampNeg + (24 : Int32).toNatClampNeg ≤ n226_1 ∧ ∀ u226 : XS, u226 = xcp u211 b226_1 (0 : Int32).toNatClampNeg b226 (0 : Int32).toNatClampNeg (24 : Int32).toNatClampNeg →
                    ∀ u234 : XS, u234 = xsi u226 b75 10 (xi u226 x0 6) →
                    ∀ u242 : XS, u242 = xsi u234 b75 11 (xi u234 x0 19) →
                    ∀ u250 : XS, u250 = xsi u242 b75 12 (xi u242 x0 7) →
                    Post b75 K208 u250)))))))))
def xw6_told_L24_S (Post : Nat → XK → XS → Prop) (mc ms : Nat) (x0 : Nat) (R : Int32 → XK → XS → Nat → Nat → Prop) (x1 : Int32) (K : XK) (u : XS) (c s : Nat) : Prop :=
  K x0 = (1, 6) ∧
  ((xi u x0 5) ≤ x1 →
    xw6_inLine x0 K u (fun r44 u44 =>
      (r44 ≤ 0 →
        xw6_told_B54 Post mc ms x0 K u44 c s) ∧
      (¬ r44 ≤ 0 →
        xw6_ends x0 K u44 (fun u51 =>
          xw6_told_B54 Post mc ms x0 K u51 c s)))) ∧
  (¬ (xi u x0 5) ≤ x1 →
    xw6_piece x0 x1 K u (fun u34 =>
      ∀ v37 : Int32, v37 = x1 + (1 : Int32) →
      R v37 K u34 c s))
def xw6_told_L24 (Post : Nat → XK → XS → Prop) (mc ms : Nat) (x0 : Nat) : Nat → Int32 → XK → XS → Nat → Nat → Prop
  | 0 => fun _ _ _ _ _ => False
  | n + 1 => fun x1 K u c s => xw6_told_L24_S Post mc ms x0 (xw6_told_L24 Post mc ms x0 n) x1 K u c s
/-- RaisedPress$Setter.told()LRaisedPress$Writing; -/
def xw6_told (x0 : Nat) (K : XK) (u : XS) (mc ms : Nat) (Post : Nat → XK → XS → Prop) : Prop :=
  K x0 = (1, 6) ∧
  ∀ u2 : XS, u2 = xsi u x0 17 (0 : Int32) →
  ∀ u7 : XS, u7 = xsi u2 x0 18 (0 : Int32) →
  ∀ u12 : XS, u12 = xsi u7 x0 19 (0 : Int32) →
  ∃ b21, (xr u12 x0 16) = some b21 ∧
  ∃ n21, K b21 = (2, n21) ∧
  vp_in (0 : Int32) n21 ∧
  ∀ u21 : XS, u21 = xsi u12 b21 0 (0 : Int32) →
  ∃ n, xw6_told_L24 Post mc ms x0 n (0 : Int32) K u21 0 0
set_option maxHeartbeats 4000000 in
set_option maxRecDepth 100000 in
theorem txw6_told_B54 {X : JC} {D : va_G} {dA aK aV : Nat → Nat} {sz : Nat} {K0 : XK} {mc ms : Nat} {Post : Nat → XK → XS → Prop} {x0 : Nat} {K : XK} {u : XS} {c s : Nat} (hX : JX X yX6_told.cls cX6_told 3 (Option.some (Jvm.ClassFile.FieldType.object "RaisedPress$Writing")) 2 83 mc ms) (hY : JY X D dA aK aV (AX K0 sz)) (hl : XLe K0 K) (hc : c ≤ mc) (hs : s ≤ ms) (h : xw6_told_B54 Post mc ms x0  K u c s) : JJ X (AX K0 sz) (jj_Q X (jx_Qr (fun (r : Nat) (w : XK × XS) => Post r w.1 w.2) (jx_BA D dA K0 sz) (AX K0 sz)) mc ms (AX K0 sz)) 3 (XP D dA (AX K0 sz) K u) c s 54 [(0, .ref x0)] [] := by
  unfold xw6_told_B54 at h
  refine jj_aload_n hX dX6_told_54 0 rfl 55 rfl ?_
  obtain ⟨k55, h⟩ := h
  refine xg6_3 hX hY k55 dX6_told_55 q340 58 rfl ?_
  obtain ⟨hn58, hm58, h⟩ := h
  obtain ⟨hc58, hs58, h⟩ := h
  refine jx_na1 hX hY hn58 _ rfl hm58 hc58 hs58 dX6_told_58 60 rfl (fun b58 K58 u58 hb58 eK58 e58 => ?_)
  have h := h b58 K58 u58 hb58 eK58 e58
  have hleb58 : XLe K K58 := by rw [eK58]; exact XLe.up hb58
  have k58 := hleb58.at k55 (by simp)
  have hl58 := hl.tr hleb58
  have k58_1 : K58 b58 = (3, (xi u x0 3).toNatClampNeg) := by rw [eK58]; exact xup_at
  refine jj_cs (k2 := (c + 1)) (n2 := (s + (xi u x0 3).toNatClampNeg)) rfl rfl ?_
  refine jj_astore_n (lv2 := [(0, .ref x0), (1, .ref b58)]) hX dX6_told_60 (Nat.le_of_ble_eq_true rfl) [1, 0] rfl 61 rfl ?_
  refine jj_aload_n hX dX6_told_61 0 rfl 62 rfl ?_
  refine xg6_2 hX hY k58 dX6_told_62 q338 65 rfl ?_
  refine jj_iconst hX dX6_told_65 ci_0 66 rfl ?_
  refine jj_aload_n hX dX6_told_66 1 rfl 67 rfl ?_
  refine jj_iconst hX dX6_told_67 ci_0 68 rfl ?_
  refine jj_aload_n hX dX6_told_68 0 rfl 69 rfl ?_
  refine xg6_3 hX hY k58 dX6_told_69 q340 72 rfl ?_
  obtain ⟨b72, g72, h⟩ := h
  refine jj_st (st2 := [.int (xi u58 x0 3), .int (0 : Int32), .ref b58, .int (0 : Int32), .ref b72]) (by rw [va_rf_some g72]) ?_
  obtain ⟨n72, k72, h⟩ := h
  obtain ⟨g72_1, g72_2, g72_3, g72_4, g72_5, h⟩ := h
  refine jx_copyi hX hY k72 k58_1 (by decide) q992 g72_1 g72_2 g72_3 g72_4 g72_5 (Nat.le_of_ble_eq_true rfl) (by decide) (Nat.le_of_ble_eq_true rfl) dX6_told_72 75 rfl (fun u72 e72 => ?_)
  have h := h u72 e72
  obtain ⟨hc75, hs75, h⟩ := h
  refine jx_new hX hY jf15 jd15 q993 q994 q147 hc75 hs75 dX6_told_75 78 rfl (fun b75 K75 u75 hb75 eK75 e75 => ?_)
  have h := h b75 K75 u75 hb75 eK75 e75
  have hleb75 : XLe K58 K75 := by rw [eK75]; exact XLe.up hb75
  have k75 := hleb75.at k58 (by simp)
  have k75_1 := hleb75.at k58_1 (by simp)
  have k75_2 := hleb75.at k72 (by simp)
  have hl75 := hl58.tr hleb75
  have k75_3 : K75 b75 = (1, 15) := by rw [eK75]; exact xup_at
  refine jj_cs (k2 := ((c + 1) + 1)) (n2 := ((s + (xi u x0 3).toNatClampNeg) + 13)) rfl rfl ?_
  refine jj_dup hX dX6_told_78 rfl 79 rfl ?_
  refine jj_aload_n hX dX6_told_79 1 rfl 80 rfl ?_
  obtain ⟨m80, w80, hc80, hs80, h⟩ := h
  refine kxw15_init hX hY q995 (Nat.le_of_ble_eq_true rfl) (Nat.le_of_ble_eq_true rfl) hc80 hs80 (Nat.le_of_ble_eq_true rfl) dX6_told_80 83 rfl h (fun K80 u80 hle80 h => ?_)
  have k80 := hle80.at k75 (by simp)
  have k80_1 := hle80.at k75_1 (by simp)
  have k80_2 := hle80.at k75_2 (by simp)
  have k80_3 := hle80.at k75_3 (by simp)
  have hl80 := hl75.tr hle80
  refine jj_cs (k2 := (((c + 1) + 1) + m80)) (n2 := (((s + (xi u x0 3).toNatClampNeg) + 13) + w80)) (by simp) (by simp) ?_
  refine jj_astore_n (lv2 := [(0, .ref x0), (2, .ref b75)]) hX dX6_told_83 (Nat.le_of_ble_eq_true rfl) [1, 0] rfl 84 rfl ?_
  refine jj_aload_n hX dX6_told_84 1 rfl 85 rfl ?_
  refine jj_aload_n hX dX6_told_85 0 rfl 86 rfl ?_
  refine jj_aload_n hX dX6_told_86 0 rfl 87 rfl ?_
  refine xg6_8 hX hY k80 dX6_told_87 q347 90 rfl ?_
  refine jj_aload_n hX dX6_told_90 0 rfl 91 rfl ?_
  refine xg6_4 hX hY k80 dX6_told_91 q342 94 rfl ?_
  obtain ⟨b94, g94, h⟩ := h
  refine jj_st (st2 := [.int (xi u80 x0 4), .ref b94, .ref x0, .ref b75]) (by rw [va_rf_some g94]) ?_
  obtain ⟨m94, w94, hc94, hs94, h⟩ := h
  refine kxw6_cut hX hY k80 q1061 (Nat.le_of_ble_eq_true rfl) (Nat.le_of_ble_eq_true rfl) hc94 hs94 (Nat.le_of_ble_eq_true rfl) dX6_told_94 97 rfl h (fun r94 K94 u94 hle94 h => ?_)
  have k94 := hle94.at k80 (by simp)
  have k94_1 := hle94.at k80_1 (by simp)
  have k94_2 := hle94.at k80_2 (by simp)
  have k94_3 := hle94.at k80_3 (by simp)
  have hl94 := hl80.tr hle94
  refine jj_cs (k2 := ((((c + 1) + 1) + m80) + m94)) (n2 := ((((s + (xi u x0 3).toNatClampNeg) + 13) + w80) + w94)) (by simp) (by simp) ?_
  refine xpn15_1 (v := (some r94)) hX hY k94_3 dX6_told_97 nq1002 100 rfl (fun u97 e97 => ?_)
  have h := h u97 e97
  refine jj_aload_n hX dX6_told_100 1 rfl 101 rfl ?_
  refine jj_aload_n hX dX6_told_101 0 rfl 102 rfl ?_
  refine jj_aload_n hX dX6_told_102 0 rfl 103 rfl ?_
  refine xg6_9 hX hY k94 dX6_told_103 q349 106 rfl ?_
  refine jj_aload_n hX dX6_told_106 0 rfl 107 rfl ?_
  refine xg6_5 hX hY k94 dX6_told_107 q344 110 rfl ?_
  obtain ⟨b110, g110, h⟩ := h
  refine jj_st (st2 := [.int (xi u97 x0 5), .ref b110, .ref x0, .ref b75]) (by rw [va_rf_some g110]) ?_
  obtain ⟨m110, w110, hc110, hs110, h⟩ := h
  refine kxw6_cut hX hY k94 q1061 (Nat.le_of_ble_eq_true rfl) (Nat.le_of_ble_eq_true rfl) hc110 hs110 (Nat.le_of_ble_eq_true rfl) dX6_told_110 113 rfl h (fun r110 K110 u110 hle110 h => ?_)
  have k110 := hle110.at k94 (by simp)
  have k110_1 := hle110.at k94_1 (by simp)
  have k110_2 := hle110.at k94_2 (by simp)
  have k110_3 := hle110.at k94_3 (by simp)
  have hl110 := hl94.tr hle110
  refine jj_cs (k2 := (((((c + 1) + 1) + m80) + m94) + m110)) (n2 := (((((s + (xi u x0 3).toNatClampNeg) + 13) + w80) + w94) + w110)) (by simp) (by simp) ?_
  refine xpn15_2 (v := (some r110)) hX hY k110_3 dX6_told_113 nq1005 116 rfl (fun u113 e113 => ?_)
  have h := h u113 e113
  refine jj_aload_n hX dX6_told_116 1 rfl 117 rfl ?_
  refine jj_aload_n hX dX6_told_117 0 rfl 118 rfl ?_
  refine jj_aload_n hX dX6_told_118 0 rfl 119 rfl ?_
  refine xg6_10 hX hY k110 dX6_told_119 q350 122 rfl ?_
  refine jj_aload_n hX dX6_told_122 0 rfl 123 rfl ?_
  refine xg6_5 hX hY k110 dX6_told_123 q344 126 rfl ?_
  obtain ⟨b126, g126, h⟩ := h
  refine jj_st (st2 := [.int (xi u113 x0 5), .ref b126, .ref x0, .ref b75]) (by rw [va_rf_some g126]) ?_
  obtain ⟨m126, w126, hc126, hs126, h⟩ := h
  refine kxw6_cut hX hY k110 q1061 (Nat.le_of_ble_eq_true rfl) (Nat.le_of_ble_eq_true rfl) hc126 hs126 (Nat.le_of_ble_eq_true rfl) dX6_told_126 129 rfl h (fun r126 K126 u126 hle126 h => ?_)
  have k126 := hle126.at k110 (by simp)
  have k126_1 := hle126.at k110_1 (by simp)
  have k126_2 := hle126.at k110_2 (by simp)
  have k126_3 := hle126.at k110_3 (by simp)
  have hl126 := hl110.tr hle126
  refine jj_cs (k2 := ((((((c + 1) + 1) + m80) + m94) + m110) + m126)) (n2 := ((((((s + (xi u x0 3).toNatClampNeg) + 13) + w80) + w94) + w110) + w126)) (by simp) (by simp) ?_
  refine xpn15_3 (v := (some r126)) hX hY k126_3 dX6_told_129 nq1008 132 rfl (fun u129 e129 => ?_)
  have h := h u129 e129
  refine jj_aload_n hX dX6_told_132 1 rfl 133 rfl ?_
  refine jj_aload_n hX dX6_told_133 0 rfl 134 rfl ?_
  refine jj_aload_n hX dX6_told_134 0 rfl 135 rfl ?_
  refine xg6_11 hX hY k126 dX6_told_135 q351 138 rfl ?_
  refine jj_aload_n hX dX6_told_138 0 rfl 139 rfl ?_
  refine xg6_5 hX hY k126 dX6_told_139 q344 142 rfl ?_
  obtain ⟨b142, g142, h⟩ := h
  refine jj_st (st2 := [.int (xi u129 x0 5), .ref b142, .ref x0, .ref b75]) (by rw [va_rf_some g142]) ?_
  obtain ⟨m142, w142, hc142, hs142, h⟩ := h
  refine kxw6_cut hX hY k126 q1061 (Nat.le_of_ble_eq_true rfl) (Nat.le_of_ble_eq_true rfl) hc142 hs142 (Nat.le_of_ble_eq_true rfl) dX6_told_142 145 rfl h (fun r142 K142 u142 hle142 h => ?_)
  have k142 := hle142.at k126 (by simp)
  have k142_1 := hle142.at k126_1 (by simp)
  have k142_2 := hle142.at k126_2 (by simp)
  have k142_3 := hle142.at k126_3 (by simp)
  have hl142 := hl126.tr hle142
  refine jj_cs (k2 := (((((((c + 1) + 1) + m80) + m94) + m110) + m126) + m142)) (n2 := (((((((s + (xi u x0 3).toNatClampNeg) + 13) + w80) + w94) + w110) + w126) + w142)) (by simp) (by simp) ?_
  refine xpn15_4 (v := (some r142)) hX hY k142_3 dX6_told_145 nq1011 148 rfl (fun u145 e145 => ?_)
  have h := h u145 e145
  refine jj_aload_n hX dX6_told_148 1 rfl 149 rfl ?_
  refine jj_aload_n hX dX6_told_149 0 rfl 150 rfl ?_
  refine jj_aload_n hX dX6_told_150 0 rfl 151 rfl ?_
  refine xg6_12 hX hY k142 dX6_told_151 q352 154 rfl ?_
  refine jj_aload_n hX dX6_told_154 0 rfl 155 rfl ?_
  refine xg6_5 hX hY k142 dX6_told_155 q344 158 rfl ?_
  obtain ⟨b158, g158, h⟩ := h
  refine jj_st (st2 := [.int (xi u145 x0 5), .ref b158, .ref x0, .ref b75]) (by rw [va_rf_some g158]) ?_
  obtain ⟨m158, w158, hc158, hs158, h⟩ := h
  refine kxw6_cut hX hY k142 q1061 (Nat.le_of_ble_eq_true rfl) (Nat.le_of_ble_eq_true rfl) hc158 hs158 (Nat.le_of_ble_eq_true rfl) dX6_told_158 161 rfl h (fun r158 K158 u158 hle158 h => ?_)
  have k158 := hle158.at k142 (by simp)
  have k158_1 := hle158.at k142_1 (by simp)
  have k158_2 := hle158.at k142_2 (by simp)
  have k158_3 := hle158.at k142_3 (by simp)
  have hl158 := hl142.tr hle158
  refine jj_cs (k2 := ((((((((c + 1) + 1) + m80) + m94) + m110) + m126) + m142) + m158)) (n2 := ((((((((s + (xi u x0 3).toNatClampNeg) + 13) + w80) + w94) + w110) + w126) + w142) + w158)) (by simp) (by simp) ?_
  refine xpn15_5 (v := (some r158)) hX hY k158_3 dX6_told_161 nq1014 164 rfl (fun u161 e161 => ?_)
  have h := h u161 e161
  refine jj_aload_n hX dX6_told_164 1 rfl 165 rfl ?_
  refine jj_aload_n hX dX6_told_165 0 rfl 166 rfl ?_
  refine jj_aload_n hX dX6_told_166 0 rfl 167 rfl ?_
  refine xg6_13 hX hY k158 dX6_told_167 q353 170 rfl ?_
  refine jj_aload_n hX dX6_told_170 0 rfl 171 rfl ?_
  refine xg6_4 hX hY k158 dX6_told_171 q342 174 rfl ?_
  obtain ⟨b174, g174, h⟩ := h
  refine jj_st (st2 := [.int (xi u161 x0 4), .ref b174, .ref x0, .ref b75]) (by rw [va_rf_some g174]) ?_
  obtain ⟨m174, w174, hc174, hs174, h⟩ := h
  refine kxw6_cut hX hY k158 q1061 (Nat.le_of_ble_eq_true rfl) (Nat.le_of_ble_eq_true rfl) hc174 hs174 (Nat.le_of_ble_eq_true rfl) dX6_told_174 177 rfl h (fun r174 K174 u174 hle174 h => ?_)
  have k174 := hle174.at k158 (by simp)
  have k174_1 := hle174.at k158_1 (by simp)
  have k174_2 := hle174.at k158_2 (by simp)
  have k174_3 := hle174.at k158_3 (by simp)
  have hl174 := hl158.tr hle174
  refine jj_cs (k2 := (((((((((c + 1) + 1) + m80) + m94) + m110) + m126) + m142) + m158) + m174)) (n2 := (((((((((s + (xi u x0 3).toNatClampNeg) + 13) + w80) + w94) + w110) + w126) + w142) + w158) + w174)) (by simp) (by simp) ?_
  refine xpn15_6 (v := (some r174)) hX hY k174_3 dX6_told_177 nq1017 180 rfl (fun u177 e177 => ?_)
  have h := h u177 e177
  refine jj_aload_n hX dX6_told_180 1 rfl 181 rfl ?_
  refine jj_aload_n hX dX6_told_181 0 rfl 182 rfl ?_
  refine jj_aload_n hX dX6_told_182 0 rfl 183 rfl ?_
  refine xg6_15 hX hY k174 dX6_told_183 q355 186 rfl ?_
  refine jj_aload_n hX dX6_told_186 0 rfl 187 rfl ?_
  refine xg6_17 hX hY k174 dX6_told_187 q357 190 rfl ?_
  obtain ⟨b190, g190, h⟩ := h
  refine jj_st (st2 := [.int (xi u177 x0 17), .ref b190, .ref x0, .ref b75]) (by rw [va_rf_some g190]) ?_
  obtain ⟨m190, w190, hc190, hs190, h⟩ := h
  refine kxw6_cut hX hY k174 q1061 (Nat.le_of_ble_eq_true rfl) (Nat.le_of_ble_eq_true rfl) hc190 hs190 (Nat.le_of_ble_eq_true rfl) dX6_told_190 193 rfl h (fun r190 K190 u190 hle190 h => ?_)
  have k190 := hle190.at k174 (by simp)
  have k190_1 := hle190.at k174_1 (by simp)
  have k190_2 := hle190.at k174_2 (by simp)
  have k190_3 := hle190.at k174_3 (by simp)
  have hl190 := hl174.tr hle190
  refine jj_cs (k2 := ((((((((((c + 1) + 1) + m80) + m94) + m110) + m126) + m142) + m158) + m174) + m190)) (n2 := ((((((((((s + (xi u x0 3).toNatClampNeg) + 13) + w80) + w94) + w110) + w126) + w142) + w158) + w174) + w190)) (by simp) (by simp) ?_
  refine xpn15_7 (v := (some r190)) hX hY k190_3 dX6_told_193 nq1020 196 rfl (fun u193 e193 => ?_)
  have h := h u193 e193
  refine jj_aload_n hX dX6_told_196 1 rfl 197 rfl ?_
  refine jj_aload_n hX dX6_told_197 0 rfl 198 rfl ?_
  refine jj_aload_n hX dX6_told_198 0 rfl 199 rfl ?_
  refine xg6_16 hX hY k190 dX6_told_199 q356 202 rfl ?_
  refine jj_aload_n hX dX6_told_202 0 rfl 203 rfl ?_
  refine xg6_18 hX hY k190 dX6_told_203 q358 206 rfl ?_
  refine jj_iconst hX dX6_told_206 ci_1 207 rfl ?_
  refine jj_iadd hX dX6_told_207 208 rfl ?_
  obtain ⟨b208, g208, h⟩ := h
  refine jj_st (st2 := [.int ((xi u193 x0 18) + (1 : Int32)), .ref b208, .ref x0, .ref b75]) (by rw [va_rf_some g208]) ?_
  obtain ⟨m208, w208, hc208, hs208, h⟩ := h
  refine kxw6_cut hX hY k190 q1061 (Nat.le_of_ble_eq_true rfl) (Nat.le_of_ble_eq_true rfl) hc208 hs208 (Nat.le_of_ble_eq_true rfl) dX6_told_208 211 rfl h (fun r208 K208 u208 hle208 h => ?_)
  have k208 := hle208.at k190 (by simp)
  have k208_1 := hle208.at k190_1 (by simp)
  have k208_2 := hle208.at k190_2 (by simp)
  have k208_3 := hle208.at k190_3 (by simp)
  have hl208 := hl190.tr hle208
  refine jj_cs (k2 := (((((((((((c + 1) + 1) + m80) + m94) + m110) + m126) + m142) + m158) + m174) + m190) + m208)) (n2 := (((((((((((s + (xi u x0 3).toNatClampNeg) + 13) + w80) + w94) + w110) + w126) + w142) + w158) + w174) + w190) + w208)) (by simp) (by simp) ?_
  refine xpn15_8 (v := (some r208)) hX hY k208_3 dX6_told_211 nq1023 214 rfl (fun u211 e211 => ?_)
  have h := h u211 e211
  refine jj_aload_n hX dX6_told_214 0 rfl 215 rfl ?_
  refine xg6_14 hX hY k208 dX6_told_215 q354 218 rfl ?_
  refine jj_iconst hX dX6_told_218 ci_0 219 rfl ?_
  refine jj_aload_n hX dX6_told_219 1 rfl 220 rfl ?_
  refine xgn15_9 hX hY k208_3 dX6_told_220 nq1026 223 rfl ?_
  refine jj_iconst hX dX6_told_223 ci_0 224 rfl ?_
  refine jj_bipush hX dX6_told_224 cb_24 226 rfl ?_
  obtain ⟨b226, g226, h⟩ := h
  refine jj_st (st2 := [.int (24 : Int32), .int (0 : Int32), .ref b226, .int (0 : Int32), va_rf (xr u211 x0 14)]) (by rw [va_rf_some g226]) ?_
  obtain ⟨b226_1, g226_1, h⟩ := h
  refine jj_st (st2 := [.int (24 : Int32), .int (0 : Int32), .ref b226, .int (0 : Int32), .ref b226_1]) (by rw [va_rf_some g226_1]) ?_
  obtain ⟨n226, k226, h⟩ := h
  obtain ⟨n226_1, k226_1, h⟩ := h
  obtain ⟨g226_2, g226_3, g226_4, g226_5, g226_6, h⟩ := h
  refine jx_copyi hX hY k226 k226_1 (by decide) q992 g226_2 g226_3 g226_4 g226_5 g226_6 (Nat.le_of_ble_eq_true rfl) (by decide) (Nat.le_of_ble_eq_true rfl) dX6_told_226 229 rfl (fun u226 e226 => ?_)
  have h := h u226 e226
  refine jj_aload_n hX dX6_told_229 1 rfl 230 rfl ?_
  refine jj_aload_n hX dX6_told_230 0 rfl 231 rfl ?_
  refine xg6_6 hX hY k208 dX6_told_231 q345 234 rfl ?_
  refine xpn15_10 hX hY k208_3 dX6_told_234 nq1028 237 rfl (fun u234 e234 => ?_)
  have h := h u234 e234
  refine jj_aload_n hX dX6_told_237 1 rfl 238 rfl ?_
  refine jj_aload_n hX dX6_told_238 0 rfl 239 rfl ?_
  refine xg6_19 hX hY k208 dX6_told_239 q359 242 rfl ?_
  refine xpn15_11 hX hY k208_3 dX6_told_242 nq1030 245 rfl (fun u242 e242 => ?_)
  have h := h u242 e242
  refine jj_aload_n hX dX6_told_245 1 rfl 246 rfl ?_
  refine jj_aload_n hX dX6_told_246 0 rfl 247 rfl ?_
  refine xg6_7 hX hY k208 dX6_told_247 q346 250 rfl ?_
  refine xpn15_12 hX hY k208_3 dX6_told_250 nq1032 253 rfl (fun u250 e250 => ?_)
  have h := h u250 e250
  refine jj_aload_n hX dX6_told_253 1 rfl 254 rfl ?_
  exact jj_retr (post := (fun (r : Nat) (w : XK × XS) => Post r w.1 w.2)) (u := (K208, u250)) hX (by first | exact Or.inl ⟨_, rfl⟩ | exact Or.inr ⟨_, rfl⟩) dX6_told_254 hc208 hs208 (jx_hBA hl208) h
set_option maxHeartbeats 4000000 in
set_option maxRecDepth 100000 in
theorem txw6_told_L24 {X : JC} {D : va_G} {dA aK aV : Nat → Nat} {sz : Nat} {K0 : XK} {mc ms : Nat} {Post : Nat → XK → XS → Prop} {x0 : Nat} (hX : JX X yX6_told.cls cX6_told 3 (Option.some (Jvm.ClassFile.FieldType.object "RaisedPress$Writing")) 2 83 mc ms) (hY : JY X D dA aK aV (AX K0 sz)) : ∀ (n : Nat) (x1 : Int32) (K : XK) (u : XS) (c s : Nat) (hl : XLe K0 K) (hc : c ≤ mc) (hs : s ≤ ms), xw6_told_L24 Post mc ms x0 n x1 K u c s → JJ X (AX K0 sz) (jj_Q X (jx_Qr (fun (r : Nat) (w : XK × XS) => Post r w.1 w.2) (jx_BA D dA K0 sz) (AX K0 sz)) mc ms (AX K0 sz)) 3 (XP D dA (AX K0 sz) K u) c s 24 [(0, .ref x0), (1, .int x1)] [] := by
  intro n
  induction n with
  | zero =>
    intro x1 K u c s hl hc hs h
    exact h.elim
  | succ n ih =>
    intro x1 K u c s hl hc hs h
    have h : xw6_told_L24_S Post mc ms x0 (xw6_told_L24 Post mc ms x0 n) x1 K u c s := h
    unfold xw6_told_L24_S at h
    refine jj_iload_n hX dX6_told_24 1 rfl 25 rfl ?_
    refine jj_aload_n hX dX6_told_25 0 rfl 26 rfl ?_
    obtain ⟨k26, h⟩ := h
    refine xg6_5 hX hY k26 dX6_told_26 q344 29 rfl ?_
    refine jj_icmp_ge hX dX6_told_29 43 32 (by decide) rfl (fun c29 => ?_) (fun c29 => ?_)
    · have h := h.1 c29
      refine jj_aload_n hX dX6_told_43 0 rfl 44 rfl ?_
      refine kxw6_inLine hX hY k26 q980 (Nat.le_of_ble_eq_true rfl) (Nat.le_of_ble_eq_true rfl) hc hs (Nat.le_of_ble_eq_true rfl) dX6_told_44 47 rfl h (fun r44 u44 h => ?_)
      refine jj_if_le hX dX6_told_47 54 50 (by decide) rfl (fun c47 => ?_) (fun c47 => ?_)
      · have h := h.1 c47
        refine jj_sub (lv2 := [(0, .ref x0)]) [0] rfl ?_
        exact txw6_told_B54 hX hY hl hc hs h
      · have h := h.2 c47
        refine jj_aload_n hX dX6_told_50 0 rfl 51 rfl ?_
        refine kxw6_ends hX hY k26 q984 (Nat.le_of_ble_eq_true rfl) (Nat.le_of_ble_eq_true rfl) hc hs (Nat.le_of_ble_eq_true rfl) dX6_told_51 54 rfl h (fun u51 h => ?_)
        refine jj_sub (lv2 := [(0, .ref x0)]) [0] rfl ?_
        exact txw6_told_B54 hX hY hl hc hs h
    · have h := h.2 c29
      refine jj_aload_n hX dX6_told_32 0 rfl 33 rfl ?_
      refine jj_iload_n hX dX6_told_33 1 rfl 34 rfl ?_
      refine kxw6_piece hX hY k26 q976 (Nat.le_of_ble_eq_true rfl) (Nat.le_of_ble_eq_true rfl) hc hs (Nat.le_of_ble_eq_true rfl) dX6_told_34 37 rfl h (fun u34 h => ?_)
      obtain ⟨v37, e37⟩ : ∃ y : Int32, y = x1 + (1 : Int32) := ⟨_, rfl⟩
      have h := h v37 e37
      refine jj_iinc (v := v37) (lv2 := [(0, .ref x0), (1, .int v37)]) hX dX6_told_37 1 rfl (by rw [e37, ci_1]) (Nat.le_of_ble_eq_true rfl) [1, 0] rfl 40 rfl ?_
      refine jj_goto hX dX6_told_40 24 (by decide) ?_
      exact ih _ _ _ _ _ hl hc hs h
set_option maxHeartbeats 4000000 in
set_option maxRecDepth 100000 in
theorem mxw6_told (l : Launch) (hfl : l.stackTraces = false) (D : va_G) (dA aK aV : Nat → Nat) (x0 : Nat) (K : XK) (u : XS) (mc ms : Nat) (Post : Nat → XK → XS → Prop) (h : xw6_told x0 K u mc ms Post) (sz : Nat) : Met l yX6_told (ws_ yX6_told cX6_told 3 (Option.some (Jvm.ClassFile.FieldType.object "RaisedPress$Writing"))) (jx_rm 2 83 mc ms) (jx_Pc D dA aK aV K u sz [.ref x0]) (jx_Qr (fun (r : Nat) (w : XK × XS) => Post r w.1 w.2) (jx_BA D dA K sz) (AX K sz)) mc ms (AX K sz) := by
  refine jx_start hfl [.ref x0] [(0, .ref x0)] (by decide) (Nat.le_of_ble_eq_true rfl) rfl (fun X hX hY hin => ?_)
  unfold xw6_told at h
  refine jj_aload_n hX dX6_told_0 0 rfl 1 rfl ?_
  refine jj_iconst hX dX6_told_1 ci_0 2 rfl ?_
  obtain ⟨k2, h⟩ := h
  refine xp6_17 hX hY k2 dX6_told_2 q357 5 rfl (fun u2 e2 => ?_)
  have h := h u2 e2
  refine jj_aload_n hX dX6_told_5 0 rfl 6 rfl ?_
  refine jj_iconst hX dX6_told_6 ci_0 7 rfl ?_
  refine xp6_18 hX hY k2 dX6_told_7 q358 10 rfl (fun u7 e7 => ?_)
  have h := h u7 e7
  refine jj_aload_n hX dX6_told_10 0 rfl 11 rfl ?_
  refine jj_iconst hX dX6_told_11 ci_0 12 rfl ?_
  refine xp6_19 hX hY k2 dX6_told_12 q359 15 rfl (fun u12 e12 => ?_)
  have h := h u12 e12
  refine jj_aload_n hX dX6_told_15 0 rfl 16 rfl ?_
  refine xg6_16 hX hY k2 dX6_told_16 q356 19 rfl ?_
  refine jj_iconst hX dX6_told_19 ci_0 20 rfl ?_
  refine jj_iconst hX dX6_told_20 ci_0 21 rfl ?_
  obtain ⟨b21, g21, h⟩ := h
  refine jj_st (st2 := [.int (0 : Int32), .int (0 : Int32), .ref b21]) (by rw [va_rf_some g21]) ?_
  obtain ⟨n21, k21, h⟩ := h
  obtain ⟨hi21, h⟩ := h
  refine jx_iast hX hY.1 k21 0 kc_0 hi21 dX6_told_21 22 rfl (fun u21 e21 => ?_)
  have h := h u21 e21
  refine jj_iconst hX dX6_told_22 ci_0 23 rfl ?_
  refine jj_istore_n (lv2 := [(0, .ref x0), (1, .int (0 : Int32))]) hX dX6_told_23 (Nat.le_of_ble_eq_true rfl) [1, 0] rfl 24 rfl ?_
  obtain ⟨n9, h⟩ := h
  exact txw6_told_L24 hX hY n9 _ _ _ _ _ XLe.rf (Nat.zero_le _) (Nat.zero_le _) h
theorem hd_xw6_told : yX6_told.cls ≠ "java/lang/invoke/MethodHandle" ∧ yX6_told.cls ≠ "java/lang/invoke/VarHandle" ∧ (parseMethodDescriptor yX6_told.desc).map (fun d => d.parameters.length) = some 0 := by decide +kernel
theorem kxw6_told {X : JC} {A : Nat → Prop} {Q : State → Prop} {nL k n pc : Nat} {lv : List (Nat × Value)} {st : List Value} {own : String} {cc : ByteArray} {ret : Option FieldType} {F LL mc ms ix mc2 ms2 : Nat} {D : va_G} {dA aK aV : Nat → Nat} {K : XK} {u : XS} {x0 : Nat} {Post : Nat → XK → XS → Prop} (hX : JX X own cc nL ret F LL mc ms) (hY : JY X D dA aK aV A) (h1a : K x0 = (1, 6)) (hlk : (Cond.methodLink own ix yX6_told) ∈ lw_all) (hF : 2 + 1 ≤ F) (hL : 8 + (3 + 11) + 83 ≤ LL) (hk : k + mc2 ≤ mc) (hk2 : n + ms2 ≤ ms) (hw : (st.map fun v => v.category).sum ≤ 8) (d : decode cc pc = .ok (.invokevirtual ix, 3)) (q : Nat) (hq : pc + 3 = q) (h : xw6_told x0 K u mc2 ms2 Post) (kk : ∀ (r : Nat) (K2 : XK) (u2 : XS), XLe K K2 → Post r K2 u2 → JJ X A Q nL (XP D dA A K2 u2) (k + mc2) (n + ms2) q lv (.ref r :: st)) : JJ X A Q nL (XP D dA A K u) k n pc lv (.ref x0 :: st) :=
  jx_callVrA (na := 0) (As := []) hX hY jf6 h1a (fun sz => mxw6_told (jj_l X) hY.2.2.2.2 D dA aK aV x0 K u mc2 ms2 Post h sz) hlk q973 q974 q128 q975 ⟨rfl, hd_xw6_told⟩ rfl rfl hw hF hL hk hk2 d q hq kk
theorem knxw6_told {X : JC} {A : Nat → Prop} {Q : State → Prop} {nL k n pc : Nat} {lv : List (Nat × Value)} {st : List Value} {own : String} {cc : ByteArray} {ret : Option FieldType} {F LL mc ms ix mc2 ms2 : Nat} {D : va_G} {dA aK aV : Nat → Nat} {K : XK} {u : XS} {x0 : Nat} {host : String} {Post : Nat → XK → XS → Prop} (hX : JX X own cc nL ret F LL mc ms) (hY : JY X D dA aK aV A) (h1a : K x0 = (1, 6)) (hlk : (Cond.methodLinkNest own ix yX6_told host) ∈ jx_nest) (hF : 2 + 1 ≤ F) (hL : 8 + (3 + 11) + 83 ≤ LL) (hk : k + mc2 ≤ mc) (hk2 : n + ms2 ≤ ms) (hw : (st.map fun v => v.category).sum ≤ 8) (d : decode cc pc = .ok (.invokevirtual ix, 3)) (q : Nat) (hq : pc + 3 = q) (h : xw6_told x0 K u mc2 ms2 Post) (kk : ∀ (r : Nat) (K2 : XK) (u2 : XS), XLe K K2 → Post r K2 u2 → JJ X A Q nL (XP D dA A K2 u2) (k + mc2) (n + ms2) q lv (.ref r :: st)) : JJ X A Q nL (XP D dA A K u) k n pc lv (.ref x0 :: st) :=
  jx_callNrA (na := 0) (As := []) hX hY jf6 h1a (fun sz => mxw6_told (jj_l X) hY.2.2.2.2 D dA aK aV x0 K u mc2 ms2 Post h sz) hlk q973 q974 q128 q975 hd_xw6_told rfl rfl hw hF hL hk hk2 d q hq kk
/-- RaisedPress.writing(I)I -/
def xw0_writing (x0 : Nat) (x1 : Int32) (K : XK) (u : XS) (mc ms : Nat) (Post : Int32 → XK → XS → Prop) : Prop :=
  K x0 = (1, 0) ∧
  xw0_opens x0 x1 (300 : Int32) K u (fun r5 u5 =>
    (¬ r5 = 0 →
      ∃ m14 w14, m14 ≤ mc ∧ w14 ≤ ms ∧ xw0_setter x0 K u5 m14 w14 (fun r14 K14 u14 =>
        ∃ b26, (xr u14 x0 10) = some b26 ∧
        K14 b26 = (1, 4) ∧
        ∃ b29, (xr u14 x0 2) = some b29 ∧
        K14 r14 = (1, 6) ∧
        ∃ m29 w29, (m14 + m29) ≤ mc ∧ (w14 + w29) ≤ ms ∧ xw6_all r14 b29 x1 (xi u14 b26 1) K14 u14 m29 w29 (fun K29 u29 =>
          ∃ m37 w37, ((m14 + m29) + m37) ≤ mc ∧ ((w14 + w29) + w37) ≤ ms ∧ xw0_setter x0 K29 u29 m37 w37 (fun r37 K37 u37 =>
            K37 r37 = (1, 6) ∧
            ∃ m40 w40, (((m14 + m29) + m37) + m40) ≤ mc ∧ (((w14 + w29) + w37) + w40) ≤ ms ∧ xw6_told r37 K37 u37 m40 w40 (fun r40 K40 u40 =>
              ∃ b43, (xr u29 x0 10) = some b43 ∧
              K40 b43 = (1, 4) ∧
              ∀ u43 : XS, u43 = xsr u40 b43 2 (some r40) →
              ∃ b50, (xr u43 x0 10) = some b50 ∧
              K40 b50 = (1, 4) ∧
              ∃ b53, (xr u43 b50 2) = some b53 ∧
              K40 b53 = (1, 15) ∧
              ∃ b56, (xr u43 b53 1) = some b56 ∧
              ∃ n56, K40 b56 = (2, n56) ∧
              Post (nI n56) K40 u43))) (fun q29 K29 u29 =>
          xw0_faulty x0 q29 K29 u29 (fun r61 u61 =>
            Post r61 K29 u61)))) ∧
    (r5 = 0 →
      Post (-1 : Int32) K u5))
set_option maxHeartbeats 4000000 in
set_option maxRecDepth 100000 in
theorem mxw0_writing (l : Launch) (hfl : l.stackTraces = false) (D : va_G) (dA aK aV : Nat → Nat) (x0 : Nat) (x1 : Int32) (K : XK) (u : XS) (mc ms : Nat) (Post : Int32 → XK → XS → Prop) (h : xw0_writing x0 x1 K u mc ms Post) (sz : Nat) : Met l yX0_writing (wsW_ yX0_writing cX0_writing 3 (Option.some Jvm.ClassFile.FieldType.int) [(13, 57, 58, 31)]) (jx_rm 6 141 mc ms) (jx_Pc D dA aK aV K u sz [.ref x0, .int x1]) (va_Qi (fun (r : Int32) (w : XK × XS) => Post r w.1 w.2) (jx_BA D dA K sz) (AX K sz)) mc ms (AX K sz) := by
  refine jx_startW hfl [.ref x0, .int x1] [(0, .ref x0), (1, .int x1)] (by decide) (Nat.le_of_ble_eq_true rfl) rfl (fun X hX hY hE => ?_)
  unfold xw0_writing at h
  refine jj_aload_n hX dX0_writing_0 0 rfl 1 rfl ?_
  refine jj_iload_n hX dX0_writing_1 1 rfl 2 rfl ?_
  refine jj_sipush hX dX0_writing_2 cs_300 5 rfl ?_
  obtain ⟨k5, h⟩ := h
  refine kxw0_opens hX hY k5 q625 (Nat.le_of_ble_eq_true rfl) (Nat.le_of_ble_eq_true rfl) (Nat.zero_le _) (Nat.zero_le _) (Nat.le_of_ble_eq_true rfl) dX0_writing_5 8 rfl h (fun r5 u5 hb5 h => ?_)
  refine jj_if_ne hX dX0_writing_8 13 11 (by decide) rfl (fun c8 => ?_) (fun c8 => ?_)
  · have h := h.1 c8
    refine jj_aload_n hX dX0_writing_13 0 rfl 14 rfl ?_
    obtain ⟨m14, w14, hc14, hs14, h⟩ := h
    refine kxw0_setter hX hY k5 q875 (Nat.le_of_ble_eq_true rfl) (Nat.le_of_ble_eq_true rfl) (by simpa using hc14) (by simpa using hs14) (Nat.le_of_ble_eq_true rfl) dX0_writing_14 17 rfl h (fun r14 K14 u14 hle14 h => ?_)
    have k14 := hle14.at k5 (by simp)
    have hl14 := XLe.rf.tr hle14
    refine jj_cs (k2 := m14) (n2 := w14) (by simp) (by simp) ?_
    refine jj_aload_n hX dX0_writing_17 0 rfl 18 rfl ?_
    refine xg0_2 hX hY k14 dX0_writing_18 q413 21 rfl ?_
    refine jj_iload_n hX dX0_writing_21 1 rfl 22 rfl ?_
    refine jj_aload_n hX dX0_writing_22 0 rfl 23 rfl ?_
    refine xg0_10 hX hY k14 dX0_writing_23 q421 26 rfl ?_
    obtain ⟨b26, g26, h⟩ := h
    refine jj_st (st2 := [.ref b26, .int x1, va_rf (xr u14 x0 2), .ref r14]) (by rw [va_rf_some g26]) ?_
    obtain ⟨k26, h⟩ := h
    refine xgn4_1 hX hY k26 dX0_writing_26 nq317 29 rfl ?_
    obtain ⟨b29, g29, h⟩ := h
    refine jj_st (st2 := [.int (xi u14 b26 1), .int x1, .ref b29, .ref r14]) (by rw [va_rf_some g29]) ?_
    obtain ⟨k29, h⟩ := h
    obtain ⟨m29, w29, hc29, hs29, h⟩ := h
    refine kxw6_all hX hY k29 q883 (Nat.le_of_ble_eq_true rfl) (Nat.le_of_ble_eq_true rfl) hc29 hs29 (Nat.le_of_ble_eq_true rfl) dX0_writing_29 32 rfl h (fun q29 K29 u29 hle29 h => jt_cs (k2 := (m14 + m29)) (n2 := (w14 + w29)) (by simp) (by simp) ?_) (fun K29 u29 hle29 h => jj_cs (k2 := (m14 + m29)) (n2 := (w14 + w29)) (by simp) (by simp) ?_)
    · have k29_1 := hle29.at k14 (by simp)
      have k29_2 := hle29.at k26 (by simp)
      have k29_3 := hle29.at k29 (by simp)
      have hl29 := hl14.tr hle29
      refine jt_catch0 (nm := "RaisedPress$Bad") hX hY.2.1 hE rfl (by decide) q169 nq171 ?_
      refine jj_astore_n (lv2 := [(0, .ref x0), (2, .ref q29)]) hX dX0_writing_58 (Nat.le_of_ble_eq_true rfl) [1, 0] rfl 59 rfl ?_
      refine jj_aload_n hX dX0_writing_59 0 rfl 60 rfl ?_
      refine jj_aload_n hX dX0_writing_60 1 rfl 61 rfl ?_
      refine kxw0_faulty hX hY k29_1 q867 (Nat.le_of_ble_eq_true rfl) (Nat.le_of_ble_eq_true rfl) hc29 hs29 (Nat.le_of_ble_eq_true rfl) dX0_writing_61 64 rfl h (fun r61 u61 h => ?_)
      exact jj_reti (post := (fun (r : Int32) (w : XK × XS) => Post r w.1 w.2)) (u := (K29, u61)) hX dX0_writing_64 hc29 hs29 (jx_hBA hl29) h
    · have k29_1 := hle29.at k14 (by simp)
      have k29_2 := hle29.at k26 (by simp)
      have k29_3 := hle29.at k29 (by simp)
      have hl29 := hl14.tr hle29
      refine jj_aload_n hX dX0_writing_32 0 rfl 33 rfl ?_
      refine xg0_10 hX hY k29_1 dX0_writing_33 q421 36 rfl ?_
      refine jj_aload_n hX dX0_writing_36 0 rfl 37 rfl ?_
      obtain ⟨m37, w37, hc37, hs37, h⟩ := h
      refine kxw0_setter hX hY k29_1 q875 (Nat.le_of_ble_eq_true rfl) (Nat.le_of_ble_eq_true rfl) hc37 hs37 (by simp [jx_rfc, jx_c1, jx_c2, jx_c3, jx_c4]) dX0_writing_37 40 rfl h (fun r37 K37 u37 hle37 h => ?_)
      have k37 := hle37.at k29_1 (by simp)
      have k37_1 := hle37.at k29_2 (by simp)
      have k37_2 := hle37.at k29_3 (by simp)
      have hl37 := hl29.tr hle37
      refine jj_cs (k2 := ((m14 + m29) + m37)) (n2 := ((w14 + w29) + w37)) (by simp) (by simp) ?_
      obtain ⟨k40, h⟩ := h
      obtain ⟨m40, w40, hc40, hs40, h⟩ := h
      refine kxw6_told hX hY k40 q972 (Nat.le_of_ble_eq_true rfl) (Nat.le_of_ble_eq_true rfl) hc40 hs40 (by simp [jx_rfc, jx_c1, jx_c2, jx_c3, jx_c4]) dX0_writing_40 43 rfl h (fun r40 K40 u40 hle40 h => ?_)
      have k40_1 := hle40.at k37 (by simp)
      have k40_2 := hle40.at k37_1 (by simp)
      have k40_3 := hle40.at k37_2 (by simp)
      have k40_4 := hle40.at k40 (by simp)
      have hl40 := hl37.tr hle40
      refine jj_cs (k2 := (((m14 + m29) + m37) + m40)) (n2 := (((w14 + w29) + w37) + w40)) (by simp) (by simp) ?_
      obtain ⟨b43, g43, h⟩ := h
      refine jj_st (st2 := [.ref r40, .ref b43]) (by rw [va_rf_some g43]) ?_
      obtain ⟨k43, h⟩ := h
      refine xpn4_2 (v := (some r40)) hX hY k43 dX0_writing_43 nq319 46 rfl (fun u43 e43 => ?_)
      have h := h u43 e43
      refine jj_aload_n hX dX0_writing_46 0 rfl 47 rfl ?_
      refine xg0_10 hX hY k40_1 dX0_writing_47 q421 50 rfl ?_
      obtain ⟨b50, g50, h⟩ := h
      refine jj_st (st2 := [.ref b50]) (by rw [va_rf_some g50]) ?_
      obtain ⟨k50, h⟩ := h
      refine xgn4_2 hX hY k50 dX0_writing_50 nq319 53 rfl ?_
      obtain ⟨b53, g53, h⟩ := h
      refine jj_st (st2 := [.ref b53]) (by rw [va_rf_some g53]) ?_
      obtain ⟨k53, h⟩ := h
      refine xgn15_1 hX hY k53 dX0_writing_53 nq1003 56 rfl ?_
      obtain ⟨b56, g56, h⟩ := h
      refine jj_st (st2 := [.ref b56]) (by rw [va_rf_some g56]) ?_
      obtain ⟨n56, k56, h⟩ := h
      refine jx_alen hX hY.1 k56 dX0_writing_56 57 rfl ?_
      exact jj_reti (post := (fun (r : Int32) (w : XK × XS) => Post r w.1 w.2)) (u := (K40, u43)) hX dX0_writing_57 hc40 hs40 (jx_hBA hl40) h
  · have h := h.2 c8
    refine jj_iconst hX dX0_writing_11 ci_m1 12 rfl ?_
    exact jj_reti (post := (fun (r : Int32) (w : XK × XS) => Post r w.1 w.2)) (u := (K, u5)) hX dX0_writing_12 (Nat.zero_le _) (Nat.zero_le _) (jx_hBA XLe.rf) h
theorem hd_xw0_writing : yX0_writing.cls ≠ "java/lang/invoke/MethodHandle" ∧ yX0_writing.cls ≠ "java/lang/invoke/VarHandle" ∧ (parseMethodDescriptor yX0_writing.desc).map (fun d => d.parameters.length) = some 1 := by decide +kernel
theorem kxw0_writing {X : JC} {A : Nat → Prop} {Q : State → Prop} {nL k n pc : Nat} {lv : List (Nat × Value)} {st : List Value} {own : String} {cc : ByteArray} {ret : Option FieldType} {F LL mc ms ix mc2 ms2 : Nat} {D : va_G} {dA aK aV : Nat → Nat} {K : XK} {u : XS} {x0 : Nat} {x1 : Int32} {Post : Int32 → XK → XS → Prop} (hX : JX X own cc nL ret F LL mc ms) (hY : JY X D dA aK aV A) (h1a : K x0 = (1, 0)) (hlk : (Cond.methodLink own ix yX0_writing) ∈ lw_all) (hF : 6 + 1 ≤ F) (hL : 8 + (3 + 11) + 141 ≤ LL) (hk : k + mc2 ≤ mc) (hk2 : n + ms2 ≤ ms) (hw : (st.map fun v => v.category).sum ≤ 8) (d : decode cc pc = .ok (.invokevirtual ix, 3)) (q : Nat) (hq : pc + 3 = q) (h : xw0_writing x0 x1 K u mc2 ms2 Post) (kk : ∀ (r : Int32) (K2 : XK) (u2 : XS), XLe K K2 → Post r K2 u2 → JJ X A Q nL (XP D dA A K2 u2) (k + mc2) (n + ms2) q lv (.int r :: st)) : JJ X A Q nL (XP D dA A K u) k n pc lv (.int x1 :: .ref x0 :: st) :=
  jx_callWVi (na := 1) (As := [.int x1]) hX hY jf0 h1a (fun sz => mxw0_writing (jj_l X) hY.2.2.2.2 D dA aK aV x0 x1 K u mc2 ms2 Post h sz) hlk q872 q873 q120 q874 ⟨rfl, hd_xw0_writing⟩ rfl rfl hw hF hL hk hk2 d q hq kk
/-- RaisedPress.fault(I)I -/
def xw0_fault (x0 : Nat) (x1 : Int32) (K : XK) (u : XS) (Post : Int32 → XS → Prop) : Prop :=
  (¬ x1 = 0 →
    (¬ x1 = (1 : Int32) →
      Post (-1 : Int32) u) ∧
    (x1 = (1 : Int32) →
      K x0 = (1, 0) ∧
      Post (xi u x0 5) u)) ∧
  (x1 = 0 →
    K x0 = (1, 0) ∧
    Post (xi u x0 4) u)
set_option maxHeartbeats 4000000 in
set_option maxRecDepth 100000 in
theorem mxw0_fault (l : Launch) (hfl : l.stackTraces = false) (D : va_G) (dA aK aV : Nat → Nat) (x0 : Nat) (x1 : Int32) (K : XK) (u : XS) (Post : Int32 → XS → Prop) (h : xw0_fault x0 x1 K u Post) (sz : Nat) : Met l yX0_fault (ws_ yX0_fault cX0_fault 2 (Option.some Jvm.ClassFile.FieldType.int)) (jx_rm 0 0 0 0) (jx_Pc D dA aK aV K u sz [.ref x0, .int x1]) (va_Qi (fun (r : Int32) (w : XS) => Post r w) (jx_B D dA K) (AX K sz)) 0 0 (AX K sz) := by
  refine jx_start hfl [.ref x0, .int x1] [(0, .ref x0), (1, .int x1)] (by decide) (Nat.le_of_ble_eq_true rfl) rfl (fun X hX hY hin => ?_)
  unfold xw0_fault at h
  refine jj_iload_n hX dX0_fault_0 1 rfl 1 rfl ?_
  refine jj_if_ne hX dX0_fault_1 11 4 (by decide) rfl (fun c1 => ?_) (fun c1 => ?_)
  · have h := h.1 c1
    refine jj_iload_n hX dX0_fault_11 1 rfl 12 rfl ?_
    refine jj_iconst hX dX0_fault_12 ci_1 13 rfl ?_
    refine jj_icmp_ne hX dX0_fault_13 23 16 (by decide) rfl (fun c13 => ?_) (fun c13 => ?_)
    · have h := h.1 c13
      refine jj_iconst hX dX0_fault_23 ci_m1 24 rfl ?_
      exact jj_reti (post := (fun (r : Int32) (w : XS) => Post r w)) (u := u) hX dX0_fault_24 (Nat.le_refl 0) (Nat.le_refl 0) jx_hB h
    · have h := h.2 c13
      refine jj_aload_n hX dX0_fault_16 0 rfl 17 rfl ?_
      obtain ⟨k17, h⟩ := h
      refine xg0_5 hX hY k17 dX0_fault_17 q416 20 rfl ?_
      refine jj_goto hX dX0_fault_20 24 (by decide) ?_
      exact jj_reti (post := (fun (r : Int32) (w : XS) => Post r w)) (u := u) hX dX0_fault_24 (Nat.le_refl 0) (Nat.le_refl 0) jx_hB h
  · have h := h.2 c1
    refine jj_aload_n hX dX0_fault_4 0 rfl 5 rfl ?_
    obtain ⟨k5, h⟩ := h
    refine xg0_4 hX hY k5 dX0_fault_5 q415 8 rfl ?_
    refine jj_goto hX dX0_fault_8 24 (by decide) ?_
    exact jj_reti (post := (fun (r : Int32) (w : XS) => Post r w)) (u := u) hX dX0_fault_24 (Nat.le_refl 0) (Nat.le_refl 0) jx_hB h
theorem hd_xw0_fault : yX0_fault.cls ≠ "java/lang/invoke/MethodHandle" ∧ yX0_fault.cls ≠ "java/lang/invoke/VarHandle" ∧ (parseMethodDescriptor yX0_fault.desc).map (fun d => d.parameters.length) = some 1 := by decide +kernel
theorem kxw0_fault {X : JC} {A : Nat → Prop} {Q : State → Prop} {nL k n pc : Nat} {lv : List (Nat × Value)} {st : List Value} {own : String} {cc : ByteArray} {ret : Option FieldType} {F LL mc ms ix : Nat} {D : va_G} {dA aK aV : Nat → Nat} {K : XK} {u : XS} {x0 : Nat} {x1 : Int32} {Post : Int32 → XS → Prop} (hX : JX X own cc nL ret F LL mc ms) (hY : JY X D dA aK aV A) (h1a : K x0 = (1, 0)) (hlk : (Cond.methodLink own ix yX0_fault) ∈ lw_all) (hF : 0 + 1 ≤ F) (hL : 8 + (2 + 11) + 0 ≤ LL) (hk : k ≤ mc) (hk2 : n ≤ ms) (hw : (st.map fun v => v.category).sum ≤ 8) (d : decode cc pc = .ok (.invokevirtual ix, 3)) (q : Nat) (hq : pc + 3 = q) (h : xw0_fault x0 x1 K u  Post) (kk : ∀ (r : Int32) (u2 : XS), Post r u2 → JJ X A Q nL (XP D dA A K u2) k n q lv (.int r :: st)) : JJ X A Q nL (XP D dA A K u) k n pc lv (.int x1 :: .ref x0 :: st) :=
  jx_callVi (na := 1) (As := [.int x1]) hX hY jf0 h1a (fun sz => mxw0_fault (jj_l X) hY.2.2.2.2 D dA aK aV x0 x1 K u  Post h sz) hlk q1066 q1067 q120 q1068 ⟨rfl, hd_xw0_fault⟩ rfl rfl hw hF hL hk hk2 d q hq kk
theorem knxw0_fault {X : JC} {A : Nat → Prop} {Q : State → Prop} {nL k n pc : Nat} {lv : List (Nat × Value)} {st : List Value} {own : String} {cc : ByteArray} {ret : Option FieldType} {F LL mc ms ix : Nat} {D : va_G} {dA aK aV : Nat → Nat} {K : XK} {u : XS} {x0 : Nat} {x1 : Int32} {host : String} {Post : Int32 → XS → Prop} (hX : JX X own cc nL ret F LL mc ms) (hY : JY X D dA aK aV A) (h1a : K x0 = (1, 0)) (hlk : (Cond.methodLinkNest own ix yX0_fault host) ∈ jx_nest) (hF : 0 + 1 ≤ F) (hL : 8 + (2 + 11) + 0 ≤ LL) (hk : k ≤ mc) (hk2 : n ≤ ms) (hw : (st.map fun v => v.category).sum ≤ 8) (d : decode cc pc = .ok (.invokevirtual ix, 3)) (q : Nat) (hq : pc + 3 = q) (h : xw0_fault x0 x1 K u  Post) (kk : ∀ (r : Int32) (u2 : XS), Post r u2 → JJ X A Q nL (XP D dA A K u2) k n q lv (.int r :: st)) : JJ X A Q nL (XP D dA A K u) k n pc lv (.int x1 :: .ref x0 :: st) :=
  jx_callNi (na := 1) (As := [.int x1]) hX hY jf0 h1a (fun sz => mxw0_fault (jj_l X) hY.2.2.2.2 D dA aK aV x0 x1 K u  Post h sz) hlk q1066 q1067 q120 q1068 hd_xw0_fault rfl rfl hw hF hL hk hk2 d q hq kk
/-- RaisedPress.isIn(JJJ)Z -/
def xs_isIn (x0 : Int64) (x2 : Int64) (x4 : Int64) (Post : Int32 → Prop) : Prop :=
  ((lg_cmp x0 x2) < 0 →
    Post (0 : Int32)) ∧
  (¬ (lg_cmp x0 x2) < 0 →
    (0 < (lg_cmp x0 x4) →
      Post (0 : Int32)) ∧
    (¬ 0 < (lg_cmp x0 x4) →
      Post (1 : Int32)))
set_option maxHeartbeats 4000000 in
set_option maxRecDepth 100000 in
theorem mxs_isIn (l : Launch) (x0 : Int64) (x2 : Int64) (x4 : Int64) (Post : Int32 → Prop) (h : xs_isIn x0 x2 x4 Post) : Met l yX0_isIn (ws_ yX0_isIn cX0_isIn 6 (Option.some Jvm.ClassFile.FieldType.boolean)) (jm_rm 0 0) (js_Pc [.long x0, .long x2, .long x4]) (va_Qi (fun r (_ : Unit) => Post r ∧ jj_z r) js_B js_A) 0 0 js_A := by
  refine js_start [.long x0, .long x2, .long x4] [(0, .long x0), (2, .long x2), (4, .long x4)] (by decide) (Nat.le_of_ble_eq_true rfl) rfl (fun X hX => ?_)
  unfold xs_isIn at h
  refine jj_lload_n hX dX0_isIn_0 0 rfl 1 rfl ?_
  refine jj_lload_n hX dX0_isIn_1 1 rfl 2 rfl ?_
  refine jj_lcmp hX dX0_isIn_2 3 rfl ?_
  refine jj_if_lt hX dX0_isIn_3 17 6 (by decide) rfl (fun c3 => ?_) (fun c3 => ?_)
  · have h := h.1 c3
    refine jj_iconst hX dX0_isIn_17 ci_0 18 rfl ?_
    exact jj_retz (post := (fun r (_ : Unit) => Post r)) (u := ()) hX dX0_isIn_18 (Nat.le_refl 0) (Nat.le_refl 0) js_hB jj_z0 h
  · have h := h.2 c3
    refine jj_lload_n hX dX0_isIn_6 0 rfl 7 rfl ?_
    refine jj_lload hX dX0_isIn_7 2 rfl 9 rfl ?_
    refine jj_lcmp hX dX0_isIn_9 10 rfl ?_
    refine jj_if_gt hX dX0_isIn_10 17 13 (by decide) rfl (fun c10 => ?_) (fun c10 => ?_)
    · have h := h.1 c10
      refine jj_iconst hX dX0_isIn_17 ci_0 18 rfl ?_
      exact jj_retz (post := (fun r (_ : Unit) => Post r)) (u := ()) hX dX0_isIn_18 (Nat.le_refl 0) (Nat.le_refl 0) js_hB jj_z0 h
    · have h := h.2 c10
      refine jj_iconst hX dX0_isIn_13 ci_1 14 rfl ?_
      refine jj_goto hX dX0_isIn_14 18 (by decide) ?_
      exact jj_retz (post := (fun r (_ : Unit) => Post r)) (u := ()) hX dX0_isIn_18 (Nat.le_refl 0) (Nat.le_refl 0) js_hB jj_z1 h
theorem hd_xs_isIn : yX0_isIn.cls ≠ "java/lang/invoke/MethodHandle" ∧ yX0_isIn.cls ≠ "java/lang/invoke/VarHandle" ∧ (parseMethodDescriptor yX0_isIn.desc).map (fun d => d.parameters.length) = some 3 := by decide +kernel
theorem kxs_isIn {X : JC} {A : Nat → Prop} {Q : State → Prop} {P : Heap → Prop} {nL k n pc : Nat} {lv : List (Nat × Value)} {st : List Value} {own : String} {cc : ByteArray} {ret : Option FieldType} {F LL mc ms ix : Nat} {x0 : Int64} {x2 : Int64} {x4 : Int64} {Post : Int32 → Prop} (hX : JX X own cc nL ret F LL mc ms) (hKP : jj_Keeps P) (hlk : (Cond.methodLink own ix yX0_isIn) ∈ lw_all) (hF : 0 + 1 ≤ F) (hL : 8 + (6 + 11) + 0 ≤ LL) (hk : k ≤ mc) (hk2 : n ≤ ms) (hw : (st.map fun v => v.category).sum ≤ 8) (d : decode cc pc = .ok (.invokestatic ix, 3)) (q : Nat) (hq : pc + 3 = q) (h : xs_isIn x0 x2 x4 Post) (kk : ∀ r : Int32, jj_z r → Post r → JJ X A Q nL P k n q lv (.int r :: st)) : JJ X A Q nL P k n pc lv (.long x4 :: .long x2 :: .long x0 :: st) :=
  js_callz (na := 3) (As := [.long x0, .long x2, .long x4]) hX hKP (mxs_isIn (jj_l X) x0 x2 x4 Post h) hlk q1075 q120 q1076 hd_xs_isIn rfl rfl hw hF hL hk hk2 d q hq kk
theorem knxs_isIn {X : JC} {A : Nat → Prop} {Q : State → Prop} {P : Heap → Prop} {nL k n pc : Nat} {lv : List (Nat × Value)} {st : List Value} {own host : String} {cc : ByteArray} {ret : Option FieldType} {F LL mc ms ix : Nat} {x0 : Int64} {x2 : Int64} {x4 : Int64} {Post : Int32 → Prop} (hX : JX X own cc nL ret F LL mc ms) (hKP : jj_Keeps P) (hN : JN (jj_s X)) (hlk : (Cond.methodLinkNest own ix yX0_isIn host) ∈ jx_nest) (hF : 0 + 1 ≤ F) (hL : 8 + (6 + 11) + 0 ≤ LL) (hk : k ≤ mc) (hk2 : n ≤ ms) (hw : (st.map fun v => v.category).sum ≤ 8) (d : decode cc pc = .ok (.invokestatic ix, 3)) (q : Nat) (hq : pc + 3 = q) (h : xs_isIn x0 x2 x4 Post) (kk : ∀ r : Int32, jj_z r → Post r → JJ X A Q nL P k n q lv (.int r :: st)) : JJ X A Q nL P k n pc lv (.long x4 :: .long x2 :: .long x0 :: st) :=
  js_callNz (na := 3) (As := [.long x0, .long x2, .long x4]) hX hKP hN (mxs_isIn (jj_l X) x0 x2 x4 Post h) hlk q1075 q120 q1076 hd_xs_isIn rfl rfl hw hF hL hk hk2 d q hq kk
/-- RaisedPress.answer(I)I -/
def xw0_answer (x0 : Nat) (x1 : Int32) (K : XK) (u : XS) (Post : Int32 → XS → Prop) : Prop :=
  (0 ≤ x1 →
    K x0 = (1, 0) ∧
    ∀ u11 : XS, u11 = xsi u x0 7 (0 : Int32) →
    Post x1 u11) ∧
  (¬ 0 ≤ x1 →
    K x0 = (1, 0) ∧
    ∀ u11 : XS, u11 = xsi u x0 7 (6 : Int32) →
    Post x1 u11)
set_option maxHeartbeats 4000000 in
set_option maxRecDepth 100000 in
theorem mxw0_answer (l : Launch) (hfl : l.stackTraces = false) (D : va_G) (dA aK aV : Nat → Nat) (x0 : Nat) (x1 : Int32) (K : XK) (u : XS) (Post : Int32 → XS → Prop) (h : xw0_answer x0 x1 K u Post) (sz : Nat) : Met l yX0_answer (ws_ yX0_answer cX0_answer 2 (Option.some Jvm.ClassFile.FieldType.int)) (jx_rm 0 0 0 0) (jx_Pc D dA aK aV K u sz [.ref x0, .int x1]) (va_Qi (fun (r : Int32) (w : XS) => Post r w) (jx_B D dA K) (AX K sz)) 0 0 (AX K sz) := by
  refine jx_start hfl [.ref x0, .int x1] [(0, .ref x0), (1, .int x1)] (by decide) (Nat.le_of_ble_eq_true rfl) rfl (fun X hX hY hin => ?_)
  unfold xw0_answer at h
  refine jj_aload_n hX dX0_answer_0 0 rfl 1 rfl ?_
  refine jj_iload_n hX dX0_answer_1 1 rfl 2 rfl ?_
  refine jj_if_ge hX dX0_answer_2 10 5 (by decide) rfl (fun c2 => ?_) (fun c2 => ?_)
  · have h := h.1 c2
    refine jj_iconst hX dX0_answer_10 ci_0 11 rfl ?_
    obtain ⟨k11, h⟩ := h
    refine xp0_7 hX hY k11 dX0_answer_11 q418 14 rfl (fun u11 e11 => ?_)
    have h := h u11 e11
    refine jj_iload_n hX dX0_answer_14 1 rfl 15 rfl ?_
    exact jj_reti (post := (fun (r : Int32) (w : XS) => Post r w)) (u := u11) hX dX0_answer_15 (Nat.le_refl 0) (Nat.le_refl 0) jx_hB h
  · have h := h.2 c2
    refine jj_bipush hX dX0_answer_5 cb_6 7 rfl ?_
    refine jj_goto hX dX0_answer_7 11 (by decide) ?_
    obtain ⟨k11, h⟩ := h
    refine xp0_7 hX hY k11 dX0_answer_11 q418 14 rfl (fun u11 e11 => ?_)
    have h := h u11 e11
    refine jj_iload_n hX dX0_answer_14 1 rfl 15 rfl ?_
    exact jj_reti (post := (fun (r : Int32) (w : XS) => Post r w)) (u := u11) hX dX0_answer_15 (Nat.le_refl 0) (Nat.le_refl 0) jx_hB h
theorem hd_xw0_answer : yX0_answer.cls ≠ "java/lang/invoke/MethodHandle" ∧ yX0_answer.cls ≠ "java/lang/invoke/VarHandle" ∧ (parseMethodDescriptor yX0_answer.desc).map (fun d => d.parameters.length) = some 1 := by decide +kernel
theorem kxw0_answer {X : JC} {A : Nat → Prop} {Q : State → Prop} {nL k n pc : Nat} {lv : List (Nat × Value)} {st : List Value} {own : String} {cc : ByteArray} {ret : Option FieldType} {F LL mc ms ix : Nat} {D : va_G} {dA aK aV : Nat → Nat} {K : XK} {u : XS} {x0 : Nat} {x1 : Int32} {Post : Int32 → XS → Prop} (hX : JX X own cc nL ret F LL mc ms) (hY : JY X D dA aK aV A) (h1a : K x0 = (1, 0)) (hlk : (Cond.methodLink own ix yX0_answer) ∈ lw_all) (hF : 0 + 1 ≤ F) (hL : 8 + (2 + 11) + 0 ≤ LL) (hk : k ≤ mc) (hk2 : n ≤ ms) (hw : (st.map fun v => v.category).sum ≤ 8) (d : decode cc pc = .ok (.invokevirtual ix, 3)) (q : Nat) (hq : pc + 3 = q) (h : xw0_answer x0 x1 K u  Post) (kk : ∀ (r : Int32) (u2 : XS), Post r u2 → JJ X A Q nL (XP D dA A K u2) k n q lv (.int r :: st)) : JJ X A Q nL (XP D dA A K u) k n pc lv (.int x1 :: .ref x0 :: st) :=
  jx_callVi (na := 1) (As := [.int x1]) hX hY jf0 h1a (fun sz => mxw0_answer (jj_l X) hY.2.2.2.2 D dA aK aV x0 x1 K u  Post h sz) hlk q1079 qs32 q120 q1080 ⟨rfl, hd_xw0_answer⟩ rfl rfl hw hF hL hk hk2 d q hq kk
theorem knxw0_answer {X : JC} {A : Nat → Prop} {Q : State → Prop} {nL k n pc : Nat} {lv : List (Nat × Value)} {st : List Value} {own : String} {cc : ByteArray} {ret : Option FieldType} {F LL mc ms ix : Nat} {D : va_G} {dA aK aV : Nat → Nat} {K : XK} {u : XS} {x0 : Nat} {x1 : Int32} {host : String} {Post : Int32 → XS → Prop} (hX : JX X own cc nL ret F LL mc ms) (hY : JY X D dA aK aV A) (h1a : K x0 = (1, 0)) (hlk : (Cond.methodLinkNest own ix yX0_answer host) ∈ jx_nest) (hF : 0 + 1 ≤ F) (hL : 8 + (2 + 11) + 0 ≤ LL) (hk : k ≤ mc) (hk2 : n ≤ ms) (hw : (st.map fun v => v.category).sum ≤ 8) (d : decode cc pc = .ok (.invokevirtual ix, 3)) (q : Nat) (hq : pc + 3 = q) (h : xw0_answer x0 x1 K u  Post) (kk : ∀ (r : Int32) (u2 : XS), Post r u2 → JJ X A Q nL (XP D dA A K u2) k n q lv (.int r :: st)) : JJ X A Q nL (XP D dA A K u) k n pc lv (.int x1 :: .ref x0 :: st) :=
  jx_callNi (na := 1) (As := [.int x1]) hX hY jf0 h1a (fun sz => mxw0_answer (jj_l X) hY.2.2.2.2 D dA aK aV x0 x1 K u  Post h sz) hlk q1079 qs32 q120 q1080 hd_xw0_answer rfl rfl hw hF hL hk hk2 d q hq kk
def xw0_told_B18 (Post : Int32 → XS → Prop) (K : XK) (x0 : Nat) (x1 : Int32) (s0 : Int32) (s1 : Nat) (u : XS) : Prop :=
  K s1 = (1, 0) ∧
  ∀ u18 : XS, u18 = xsi u s1 7 s0 →
  (x1.toInt < 0 ∨ 6 < x1.toInt →
    Post (-1 : Int32) u18) ∧
  (x1 = (0 : Int32) →
    K x0 = (1, 0) ∧
    xw0_table x0 K u18 (fun r65 u65 =>
      K r65 = (1, 5) ∧
      Post (xi u65 r65 1) u65)) ∧
  (x1 = (1 : Int32) →
    K x0 = (1, 0) ∧
    xw0_table x0 K u18 (fun r74 u74 =>
      K r74 = (1, 5) ∧
      xw0_answer x0 (xi u74 r74 2) K u74 (fun r80 u80 =>
        Post r80 u80))) ∧
  (x1 = (2 : Int32) →
    K x0 = (1, 0) ∧
    xw0_table x0 K u18 (fun r86 u86 =>
      K r86 = (1, 5) ∧
      xw0_answer x0 (xi u86 r86 3) K u86 (fun r92 u92 =>
        Post r92 u92))) ∧
  (x1 = (3 : Int32) →
    K x0 = (1, 0) ∧
    xw0_table x0 K u18 (fun r98 u98 =>
      K r98 = (1, 5) ∧
      xw0_answer x0 (xi u98 r98 4) K u98 (fun r104 u104 =>
        Post r104 u104))) ∧
  (x1 = (4 : Int32) →
    K x0 = (1, 0) ∧
    xw0_table x0 K u18 (fun r109 u109 =>
      K r109 = (1, 5) ∧
      Post (xi u109 r109 5) u109)) ∧
  (x1 = (5 : Int32) →
    K x0 = (1, 0) ∧
    xw0_table x0 K u18 (fun r117 u117 =>
      K r117 = (1, 5) ∧
      Post (xi u117 r117 6) u117)) ∧
  (x1 = (6 : Int32) →
    K x0 = (1, 0) ∧
    ∃ b128, (xr u18 x0 10) = some b128 ∧
    K b128 = (1, 4) ∧
    Post (xi u18 b128 1) u18)
/-- RaisedPress.told(I)I -/
def xw0_told (x0 : Nat) (x1 : Int32) (K : XK) (u : XS) (Post : Int32 → XS → Prop) : Prop :=
  xs_isIn x1.toInt64 (0 : Int64) (6 : Int64) (fun r7 =>
    (r7 = 0 →
      xw0_told_B18 Post K x0 x1 (1 : Int32) x0 u) ∧
    (¬ r7 = 0 →
      xw0_told_B18 Post K x0 x1 (0 : Int32) x0 u))
set_option maxHeartbeats 4000000 in
set_option maxRecDepth 100000 in
theorem txw0_told_B18 {X : JC} {D : va_G} {dA aK aV : Nat → Nat} {sz : Nat} {K : XK} {Post : Int32 → XS → Prop} {x0 : Nat} {x1 : Int32} {s0 : Int32} {s1 : Nat} {u : XS} (hX : JX X yX0_told.cls cX0_told 2 (Option.some Jvm.ClassFile.FieldType.int) 1 25 0 0) (hY : JY X D dA aK aV (AX K sz)) (h : xw0_told_B18 Post K x0 x1 s0 s1 u) : JJ X (AX K sz) (jj_Q X (va_Qi (fun (r : Int32) (w : XS) => Post r w) (jx_B D dA K) (AX K sz)) 0 0 (AX K sz)) 2 (XP D dA (AX K sz) K u) 0 0 18 [(0, .ref x0), (1, .int x1)] [.int s0, .ref s1] := by
  unfold xw0_told_B18 at h
  obtain ⟨k18, h⟩ := h
  refine xp0_7 hX hY k18 dX0_told_18 q418 21 rfl (fun u18 e18 => ?_)
  have h := h u18 e18
  refine jj_iload_n hX dX0_told_21 1 rfl 22 rfl ?_
  by_cases c22 : x1.toInt < 0 ∨ 6 < x1.toInt
  · have h := h.1 c22
    refine jj_tabo hX dX0_told_22 c22 132 (by decide) ?_
    refine jj_iconst hX dX0_told_132 ci_m1 133 rfl ?_
    exact jj_reti (post := (fun (r : Int32) (w : XS) => Post r w)) (u := u18) hX dX0_told_133 (Nat.le_refl 0) (Nat.le_refl 0) jx_hB h
  · obtain ⟨j9, hj9, ej9⟩ := jj_tsw (m := 6) (by decide) c22
    replace h := h.2
    match j9, hj9, ej9 with
    | 0, _, ej9 =>
      have ej9 : x1 = (0 : Int32) := ej9
      have h := h.1 ej9
      refine jj_tabi hX dX0_told_22 (by rw [ej9]; decide) (by rw [ej9]; decide) (off := 42) (by rw [ej9]; rfl) 64 (by decide) ?_
      refine jj_aload_n hX dX0_told_64 0 rfl 65 rfl ?_
      obtain ⟨k65, h⟩ := h
      refine kxw0_table hX hY k65 q879 (Nat.le_of_ble_eq_true rfl) (Nat.le_of_ble_eq_true rfl) (Nat.zero_le _) (Nat.zero_le _) (Nat.le_of_ble_eq_true rfl) dX0_told_65 68 rfl h (fun r65 u65 h => ?_)
      obtain ⟨k68, h⟩ := h
      refine xgn5_1 hX hY k68 dX0_told_68 nq279 71 rfl ?_
      exact jj_reti (post := (fun (r : Int32) (w : XS) => Post r w)) (u := u65) hX dX0_told_71 (Nat.le_refl 0) (Nat.le_refl 0) jx_hB h
    | 1, _, ej9 =>
      have ej9 : x1 = (1 : Int32) := ej9
      have h := h.2.1 ej9
      refine jj_tabi hX dX0_told_22 (by rw [ej9]; decide) (by rw [ej9]; decide) (off := 50) (by rw [ej9]; rfl) 72 (by decide) ?_
      refine jj_aload_n hX dX0_told_72 0 rfl 73 rfl ?_
      refine jj_aload_n hX dX0_told_73 0 rfl 74 rfl ?_
      obtain ⟨k74, h⟩ := h
      refine kxw0_table hX hY k74 q879 (Nat.le_of_ble_eq_true rfl) (Nat.le_of_ble_eq_true rfl) (Nat.zero_le _) (Nat.zero_le _) (Nat.le_of_ble_eq_true rfl) dX0_told_74 77 rfl h (fun r74 u74 h => ?_)
      obtain ⟨k77, h⟩ := h
      refine xgn5_2 hX hY k77 dX0_told_77 nq283 80 rfl ?_
      refine kxw0_answer hX hY k74 q1077 (Nat.le_of_ble_eq_true rfl) (Nat.le_of_ble_eq_true rfl) (Nat.zero_le _) (Nat.zero_le _) (Nat.le_of_ble_eq_true rfl) dX0_told_80 83 rfl h (fun r80 u80 h => ?_)
      exact jj_reti (post := (fun (r : Int32) (w : XS) => Post r w)) (u := u80) hX dX0_told_83 (Nat.le_refl 0) (Nat.le_refl 0) jx_hB h
    | 2, _, ej9 =>
      have ej9 : x1 = (2 : Int32) := ej9
      have h := h.2.2.1 ej9
      refine jj_tabi hX dX0_told_22 (by rw [ej9]; decide) (by rw [ej9]; decide) (off := 62) (by rw [ej9]; rfl) 84 (by decide) ?_
      refine jj_aload_n hX dX0_told_84 0 rfl 85 rfl ?_
      refine jj_aload_n hX dX0_told_85 0 rfl 86 rfl ?_
      obtain ⟨k86, h⟩ := h
      refine kxw0_table hX hY k86 q879 (Nat.le_of_ble_eq_true rfl) (Nat.le_of_ble_eq_true rfl) (Nat.zero_le _) (Nat.zero_le _) (Nat.le_of_ble_eq_true rfl) dX0_told_86 89 rfl h (fun r86 u86 h => ?_)
      obtain ⟨k89, h⟩ := h
      refine xgn5_3 hX hY k89 dX0_told_89 nq287 92 rfl ?_
      refine kxw0_answer hX hY k86 q1077 (Nat.le_of_ble_eq_true rfl) (Nat.le_of_ble_eq_true rfl) (Nat.zero_le _) (Nat.zero_le _) (Nat.le_of_ble_eq_true rfl) dX0_told_92 95 rfl h (fun r92 u92 h => ?_)
      exact jj_reti (post := (fun (r : Int32) (w : XS) => Post r w)) (u := u92) hX dX0_told_95 (Nat.le_refl 0) (Nat.le_refl 0) jx_hB h
    | 3, _, ej9 =>
      have ej9 : x1 = (3 : Int32) := ej9
      have h := h.2.2.2.1 ej9
      refine jj_tabi hX dX0_told_22 (by rw [ej9]; decide) (by rw [ej9]; decide) (off := 74) (by rw [ej9]; rfl) 96 (by decide) ?_
      refine jj_aload_n hX dX0_told_96 0 rfl 97 rfl ?_
      refine jj_aload_n hX dX0_told_97 0 rfl 98 rfl ?_
      obtain ⟨k98, h⟩ := h
      refine kxw0_table hX hY k98 q879 (Nat.le_of_ble_eq_true rfl) (Nat.le_of_ble_eq_true rfl) (Nat.zero_le _) (Nat.zero_le _) (Nat.le_of_ble_eq_true rfl) dX0_told_98 101 rfl h (fun r98 u98 h => ?_)
      obtain ⟨k101, h⟩ := h
      refine xgn5_4 hX hY k101 dX0_told_101 nq291 104 rfl ?_
      refine kxw0_answer hX hY k98 q1077 (Nat.le_of_ble_eq_true rfl) (Nat.le_of_ble_eq_true rfl) (Nat.zero_le _) (Nat.zero_le _) (Nat.le_of_ble_eq_true rfl) dX0_told_104 107 rfl h (fun r104 u104 h => ?_)
      exact jj_reti (post := (fun (r : Int32) (w : XS) => Post r w)) (u := u104) hX dX0_told_107 (Nat.le_refl 0) (Nat.le_refl 0) jx_hB h
    | 4, _, ej9 =>
      have ej9 : x1 = (4 : Int32) := ej9
      have h := h.2.2.2.2.1 ej9
      refine jj_tabi hX dX0_told_22 (by rw [ej9]; decide) (by rw [ej9]; decide) (off := 86) (by rw [ej9]; rfl) 108 (by decide) ?_
      refine jj_aload_n hX dX0_told_108 0 rfl 109 rfl ?_
      obtain ⟨k109, h⟩ := h
      refine kxw0_table hX hY k109 q879 (Nat.le_of_ble_eq_true rfl) (Nat.le_of_ble_eq_true rfl) (Nat.zero_le _) (Nat.zero_le _) (Nat.le_of_ble_eq_true rfl) dX0_told_109 112 rfl h (fun r109 u109 h => ?_)
      obtain ⟨k112, h⟩ := h
      refine xgn5_5 hX hY k112 dX0_told_112 nq295 115 rfl ?_
      exact jj_reti (post := (fun (r : Int32) (w : XS) => Post r w)) (u := u109) hX dX0_told_115 (Nat.le_refl 0) (Nat.le_refl 0) jx_hB h
    | 5, _, ej9 =>
      have ej9 : x1 = (5 : Int32) := ej9
      have h := h.2.2.2.2.2.1 ej9
      refine jj_tabi hX dX0_told_22 (by rw [ej9]; decide) (by rw [ej9]; decide) (off := 94) (by rw [ej9]; rfl) 116 (by decide) ?_
      refine jj_aload_n hX dX0_told_116 0 rfl 117 rfl ?_
      obtain ⟨k117, h⟩ := h
      refine kxw0_table hX hY k117 q879 (Nat.le_of_ble_eq_true rfl) (Nat.le_of_ble_eq_true rfl) (Nat.zero_le _) (Nat.zero_le _) (Nat.le_of_ble_eq_true rfl) dX0_told_117 120 rfl h (fun r117 u117 h => ?_)
      obtain ⟨k120, h⟩ := h
      refine xgn5_6 hX hY k120 dX0_told_120 nq298 123 rfl ?_
      exact jj_reti (post := (fun (r : Int32) (w : XS) => Post r w)) (u := u117) hX dX0_told_123 (Nat.le_refl 0) (Nat.le_refl 0) jx_hB h
    | 6, _, ej9 =>
      have ej9 : x1 = (6 : Int32) := ej9
      have h := h.2.2.2.2.2.2 ej9
      refine jj_tabi hX dX0_told_22 (by rw [ej9]; decide) (by rw [ej9]; decide) (off := 102) (by rw [ej9]; rfl) 124 (by decide) ?_
      refine jj_aload_n hX dX0_told_124 0 rfl 125 rfl ?_
      obtain ⟨k125, h⟩ := h
      refine xg0_10 hX hY k125 dX0_told_125 q421 128 rfl ?_
      obtain ⟨b128, g128, h⟩ := h
      refine jj_st (st2 := [.ref b128]) (by rw [va_rf_some g128]) ?_
      obtain ⟨k128, h⟩ := h
      refine xgn4_1 hX hY k128 dX0_told_128 nq317 131 rfl ?_
      exact jj_reti (post := (fun (r : Int32) (w : XS) => Post r w)) (u := u18) hX dX0_told_131 (Nat.le_refl 0) (Nat.le_refl 0) jx_hB h
    | j9 + 7, hj9, _ => exact absurd hj9 (by omega)
set_option maxHeartbeats 4000000 in
set_option maxRecDepth 100000 in
theorem mxw0_told (l : Launch) (hfl : l.stackTraces = false) (D : va_G) (dA aK aV : Nat → Nat) (x0 : Nat) (x1 : Int32) (K : XK) (u : XS) (Post : Int32 → XS → Prop) (h : xw0_told x0 x1 K u Post) (sz : Nat) : Met l yX0_told (ws_ yX0_told cX0_told 2 (Option.some Jvm.ClassFile.FieldType.int)) (jx_rm 1 25 0 0) (jx_Pc D dA aK aV K u sz [.ref x0, .int x1]) (va_Qi (fun (r : Int32) (w : XS) => Post r w) (jx_B D dA K) (AX K sz)) 0 0 (AX K sz) := by
  refine jx_start hfl [.ref x0, .int x1] [(0, .ref x0), (1, .int x1)] (by decide) (Nat.le_of_ble_eq_true rfl) rfl (fun X hX hY hin => ?_)
  unfold xw0_told at h
  refine jj_aload_n hX dX0_told_0 0 rfl 1 rfl ?_
  refine jj_iload_n hX dX0_told_1 1 rfl 2 rfl ?_
  refine jj_i2l hX dX0_told_2 3 rfl ?_
  refine jj_lconst (v := 0) hX dX0_told_3 (by decide) 4 rfl ?_
  refine jj_ldc2 (v := 6) hX dX0_told_4 q1073 7 rfl ?_
  refine kxs_isIn hX XP.keeps q1074 (Nat.le_of_ble_eq_true rfl) (Nat.le_of_ble_eq_true rfl) (Nat.zero_le _) (Nat.zero_le _) (Nat.le_of_ble_eq_true rfl) dX0_told_7 10 rfl h (fun r7 hb7 h => ?_)
  refine jj_if_eq hX dX0_told_10 17 13 (by decide) rfl (fun c10 => ?_) (fun c10 => ?_)
  · have h := h.1 c10
    refine jj_iconst hX dX0_told_17 ci_1 18 rfl ?_
    exact txw0_told_B18 hX hY h
  · have h := h.2 c10
    refine jj_iconst hX dX0_told_13 ci_0 14 rfl ?_
    refine jj_goto hX dX0_told_14 18 (by decide) ?_
    exact txw0_told_B18 hX hY h
theorem hd_xw0_told : yX0_told.cls ≠ "java/lang/invoke/MethodHandle" ∧ yX0_told.cls ≠ "java/lang/invoke/VarHandle" ∧ (parseMethodDescriptor yX0_told.desc).map (fun d => d.parameters.length) = some 1 := by decide +kernel
theorem kxw0_told {X : JC} {A : Nat → Prop} {Q : State → Prop} {nL k n pc : Nat} {lv : List (Nat × Value)} {st : List Value} {own : String} {cc : ByteArray} {ret : Option FieldType} {F LL mc ms ix : Nat} {D : va_G} {dA aK aV : Nat → Nat} {K : XK} {u : XS} {x0 : Nat} {x1 : Int32} {Post : Int32 → XS → Prop} (hX : JX X own cc nL ret F LL mc ms) (hY : JY X D dA aK aV A) (h1a : K x0 = (1, 0)) (hlk : (Cond.methodLink own ix yX0_told) ∈ lw_all) (hF : 1 + 1 ≤ F) (hL : 8 + (2 + 11) + 25 ≤ LL) (hk : k ≤ mc) (hk2 : n ≤ ms) (hw : (st.map fun v => v.category).sum ≤ 8) (d : decode cc pc = .ok (.invokevirtual ix, 3)) (q : Nat) (hq : pc + 3 = q) (h : xw0_told x0 x1 K u  Post) (kk : ∀ (r : Int32) (u2 : XS), Post r u2 → JJ X A Q nL (XP D dA A K u2) k n q lv (.int r :: st)) : JJ X A Q nL (XP D dA A K u) k n pc lv (.int x1 :: .ref x0 :: st) :=
  jx_callVi (na := 1) (As := [.int x1]) hX hY jf0 h1a (fun sz => mxw0_told (jj_l X) hY.2.2.2.2 D dA aK aV x0 x1 K u  Post h sz) hlk q1070 q1071 q120 q1072 ⟨rfl, hd_xw0_told⟩ rfl rfl hw hF hL hk hk2 d q hq kk
theorem knxw0_told {X : JC} {A : Nat → Prop} {Q : State → Prop} {nL k n pc : Nat} {lv : List (Nat × Value)} {st : List Value} {own : String} {cc : ByteArray} {ret : Option FieldType} {F LL mc ms ix : Nat} {D : va_G} {dA aK aV : Nat → Nat} {K : XK} {u : XS} {x0 : Nat} {x1 : Int32} {host : String} {Post : Int32 → XS → Prop} (hX : JX X own cc nL ret F LL mc ms) (hY : JY X D dA aK aV A) (h1a : K x0 = (1, 0)) (hlk : (Cond.methodLinkNest own ix yX0_told host) ∈ jx_nest) (hF : 1 + 1 ≤ F) (hL : 8 + (2 + 11) + 25 ≤ LL) (hk : k ≤ mc) (hk2 : n ≤ ms) (hw : (st.map fun v => v.category).sum ≤ 8) (d : decode cc pc = .ok (.invokevirtual ix, 3)) (q : Nat) (hq : pc + 3 = q) (h : xw0_told x0 x1 K u  Post) (kk : ∀ (r : Int32) (u2 : XS), Post r u2 → JJ X A Q nL (XP D dA A K u2) k n q lv (.int r :: st)) : JJ X A Q nL (XP D dA A K u) k n pc lv (.int x1 :: .ref x0 :: st) :=
  jx_callNi (na := 1) (As := [.int x1]) hX hY jf0 h1a (fun sz => mxw0_told (jj_l X) hY.2.2.2.2 D dA aK aV x0 x1 K u  Post h sz) hlk q1070 q1071 q120 q1072 hd_xw0_told rfl rfl hw hF hL hk hk2 d q hq kk
/-- RaisedPress.isRule(I)Z -/
def xw0_isRule (x0 : Nat) (x1 : Int32) (K : XK) (u : XS) (Post : Int32 → XS → Prop) : Prop :=
  K x0 = (1, 0) ∧
  xw0_table x0 K u (fun r4 u4 =>
    K r4 = (1, 5) ∧
    xs_isIn x1.toInt64 (0 : Int64) ((xi u4 r4 1) - (1 : Int32)).toInt64 (fun r13 =>
      Post r13 u4))
set_option maxHeartbeats 4000000 in
set_option maxRecDepth 100000 in
theorem mxw0_isRule (l : Launch) (hfl : l.stackTraces = false) (D : va_G) (dA aK aV : Nat → Nat) (x0 : Nat) (x1 : Int32) (K : XK) (u : XS) (Post : Int32 → XS → Prop) (h : xw0_isRule x0 x1 K u Post) (sz : Nat) : Met l yX0_isRule (ws_ yX0_isRule cX0_isRule 2 (Option.some Jvm.ClassFile.FieldType.boolean)) (jx_rm 1 25 0 0) (jx_Pc D dA aK aV K u sz [.ref x0, .int x1]) (va_Qi (fun (r : Int32) (w : XS) => Post r w ∧ jj_z r) (jx_B D dA K) (AX K sz)) 0 0 (AX K sz) := by
  refine jx_start hfl [.ref x0, .int x1] [(0, .ref x0), (1, .int x1)] (by decide) (Nat.le_of_ble_eq_true rfl) rfl (fun X hX hY hin => ?_)
  unfold xw0_isRule at h
  refine jj_iload_n hX dX0_isRule_0 1 rfl 1 rfl ?_
  refine jj_i2l hX dX0_isRule_1 2 rfl ?_
  refine jj_lconst (v := 0) hX dX0_isRule_2 (by decide) 3 rfl ?_
  refine jj_aload_n hX dX0_isRule_3 0 rfl 4 rfl ?_
  obtain ⟨k4, h⟩ := h
  refine kxw0_table hX hY k4 q879 (Nat.le_of_ble_eq_true rfl) (Nat.le_of_ble_eq_true rfl) (Nat.zero_le _) (Nat.zero_le _) (Nat.le_of_ble_eq_true rfl) dX0_isRule_4 7 rfl h (fun r4 u4 h => ?_)
  obtain ⟨k7, h⟩ := h
  refine xgn5_1 hX hY k7 dX0_isRule_7 nq279 10 rfl ?_
  refine jj_iconst hX dX0_isRule_10 ci_1 11 rfl ?_
  refine jj_isub hX dX0_isRule_11 12 rfl ?_
  refine jj_i2l hX dX0_isRule_12 13 rfl ?_
  refine kxs_isIn hX XP.keeps q1074 (Nat.le_of_ble_eq_true rfl) (Nat.le_of_ble_eq_true rfl) (Nat.zero_le _) (Nat.zero_le _) (Nat.le_of_ble_eq_true rfl) dX0_isRule_13 16 rfl h (fun r13 hb13 h => ?_)
  exact jj_retz (post := (fun (r : Int32) (w : XS) => Post r w)) (u := u4) hX dX0_isRule_16 (Nat.le_refl 0) (Nat.le_refl 0) jx_hB hb13 h
theorem hd_xw0_isRule : yX0_isRule.cls ≠ "java/lang/invoke/MethodHandle" ∧ yX0_isRule.cls ≠ "java/lang/invoke/VarHandle" ∧ (parseMethodDescriptor yX0_isRule.desc).map (fun d => d.parameters.length) = some 1 := by decide +kernel
theorem kxw0_isRule {X : JC} {A : Nat → Prop} {Q : State → Prop} {nL k n pc : Nat} {lv : List (Nat × Value)} {st : List Value} {own : String} {cc : ByteArray} {ret : Option FieldType} {F LL mc ms ix : Nat} {D : va_G} {dA aK aV : Nat → Nat} {K : XK} {u : XS} {x0 : Nat} {x1 : Int32} {Post : Int32 → XS → Prop} (hX : JX X own cc nL ret F LL mc ms) (hY : JY X D dA aK aV A) (h1a : K x0 = (1, 0)) (hlk : (Cond.methodLink own ix yX0_isRule) ∈ lw_all) (hF : 1 + 1 ≤ F) (hL : 8 + (2 + 11) + 25 ≤ LL) (hk : k ≤ mc) (hk2 : n ≤ ms) (hw : (st.map fun v => v.category).sum ≤ 8) (d : decode cc pc = .ok (.invokevirtual ix, 3)) (q : Nat) (hq : pc + 3 = q) (h : xw0_isRule x0 x1 K u  Post) (kk : ∀ (r : Int32) (u2 : XS), jj_z r → Post r u2 → JJ X A Q nL (XP D dA A K u2) k n q lv (.int r :: st)) : JJ X A Q nL (XP D dA A K u) k n pc lv (.int x1 :: .ref x0 :: st) :=
  jx_callVz (na := 1) (As := [.int x1]) hX hY jf0 h1a (fun sz => mxw0_isRule (jj_l X) hY.2.2.2.2 D dA aK aV x0 x1 K u  Post h sz) hlk q1087 qs33 q120 q1088 ⟨rfl, hd_xw0_isRule⟩ rfl rfl hw hF hL hk hk2 d q hq kk
theorem knxw0_isRule {X : JC} {A : Nat → Prop} {Q : State → Prop} {nL k n pc : Nat} {lv : List (Nat × Value)} {st : List Value} {own : String} {cc : ByteArray} {ret : Option FieldType} {F LL mc ms ix : Nat} {D : va_G} {dA aK aV : Nat → Nat} {K : XK} {u : XS} {x0 : Nat} {x1 : Int32} {host : String} {Post : Int32 → XS → Prop} (hX : JX X own cc nL ret F LL mc ms) (hY : JY X D dA aK aV A) (h1a : K x0 = (1, 0)) (hlk : (Cond.methodLinkNest own ix yX0_isRule host) ∈ jx_nest) (hF : 1 + 1 ≤ F) (hL : 8 + (2 + 11) + 25 ≤ LL) (hk : k ≤ mc) (hk2 : n ≤ ms) (hw : (st.map fun v => v.category).sum ≤ 8) (d : decode cc pc = .ok (.invokevirtual ix, 3)) (q : Nat) (hq : pc + 3 = q) (h : xw0_isRule x0 x1 K u  Post) (kk : ∀ (r : Int32) (u2 : XS), jj_z r → Post r u2 → JJ X A Q nL (XP D dA A K u2) k n q lv (.int r :: st)) : JJ X A Q nL (XP D dA A K u) k n pc lv (.int x1 :: .ref x0 :: st) :=
  jx_callNz (na := 1) (As := [.int x1]) hX hY jf0 h1a (fun sz => mxw0_isRule (jj_l X) hY.2.2.2.2 D dA aK aV x0 x1 K u  Post h sz) hlk q1087 qs33 q120 q1088 hd_xw0_isRule rfl rfl hw hF hL hk hk2 d q hq kk
/-- RaisedPress.at(I)LRaisedPress$Rule; -/
def xw0_at (x0 : Nat) (x1 : Int32) (K : XK) (u : XS) (Post : Nat → XS → Prop) : Prop :=
  K x0 = (1, 0) ∧
  ∃ b4, (xr u x0 10) = some b4 ∧
  K b4 = (1, 4) ∧
  ∃ b7, (xr u b4 0) = some b7 ∧
  K b7 = (1, 5) ∧
  ∃ b11, (xr u b7 0) = some b11 ∧
  ∃ n11, K b11 = (7, n11) ∧
  vp_in x1 n11 ∧
  ∃ b12, (xr u b11 x1.toNatClampNeg) = some b12 ∧
  Post b12 u
set_option maxHeartbeats 4000000 in
set_option maxRecDepth 100000 in
theorem mxw0_at (l : Launch) (hfl : l.stackTraces = false) (D : va_G) (dA aK aV : Nat → Nat) (x0 : Nat) (x1 : Int32) (K : XK) (u : XS) (Post : Nat → XS → Prop) (h : xw0_at x0 x1 K u Post) (sz : Nat) : Met l yX0_at (ws_ yX0_at cX0_at 2 (Option.some (Jvm.ClassFile.FieldType.object "RaisedPress$Rule"))) (jx_rm 0 0 0 0) (jx_Pc D dA aK aV K u sz [.ref x0, .int x1]) (jx_Qr (fun (r : Nat) (w : XS) => Post r w) (jx_B D dA K) (AX K sz)) 0 0 (AX K sz) := by
  refine jx_start hfl [.ref x0, .int x1] [(0, .ref x0), (1, .int x1)] (by decide) (Nat.le_of_ble_eq_true rfl) rfl (fun X hX hY hin => ?_)
  unfold xw0_at at h
  refine jj_aload_n hX dX0_at_0 0 rfl 1 rfl ?_
  obtain ⟨k1, h⟩ := h
  refine xg0_10 hX hY k1 dX0_at_1 q421 4 rfl ?_
  obtain ⟨b4, g4, h⟩ := h
  refine jj_st (st2 := [.ref b4]) (by rw [va_rf_some g4]) ?_
  obtain ⟨k4, h⟩ := h
  refine xgn4_0 hX hY k4 dX0_at_4 nq315 7 rfl ?_
  obtain ⟨b7, g7, h⟩ := h
  refine jj_st (st2 := [.ref b7]) (by rw [va_rf_some g7]) ?_
  obtain ⟨k7, h⟩ := h
  refine xgn5_0 hX hY k7 dX0_at_7 nq276 10 rfl ?_
  refine jj_iload_n hX dX0_at_10 1 rfl 11 rfl ?_
  obtain ⟨b11, g11, h⟩ := h
  refine jj_st (st2 := [.int x1, .ref b11]) (by rw [va_rf_some g11]) ?_
  obtain ⟨n11, k11, h⟩ := h
  obtain ⟨hi11, h⟩ := h
  refine jx_aald5 hX hY.1 k11 _ rfl hi11 dX0_at_11 12 rfl ?_
  obtain ⟨b12, g12, h⟩ := h
  refine jj_st (st2 := [.ref b12]) (by rw [va_rf_some g12]) ?_
  exact jj_retr (post := (fun (r : Nat) (w : XS) => Post r w)) (u := u) hX (by first | exact Or.inl ⟨_, rfl⟩ | exact Or.inr ⟨_, rfl⟩) dX0_at_12 (Nat.le_refl 0) (Nat.le_refl 0) jx_hB h
theorem hd_xw0_at : yX0_at.cls ≠ "java/lang/invoke/MethodHandle" ∧ yX0_at.cls ≠ "java/lang/invoke/VarHandle" ∧ (parseMethodDescriptor yX0_at.desc).map (fun d => d.parameters.length) = some 1 := by decide +kernel
theorem kxw0_at {X : JC} {A : Nat → Prop} {Q : State → Prop} {nL k n pc : Nat} {lv : List (Nat × Value)} {st : List Value} {own : String} {cc : ByteArray} {ret : Option FieldType} {F LL mc ms ix : Nat} {D : va_G} {dA aK aV : Nat → Nat} {K : XK} {u : XS} {x0 : Nat} {x1 : Int32} {Post : Nat → XS → Prop} (hX : JX X own cc nL ret F LL mc ms) (hY : JY X D dA aK aV A) (h1a : K x0 = (1, 0)) (hlk : (Cond.methodLink own ix yX0_at) ∈ lw_all) (hF : 0 + 1 ≤ F) (hL : 8 + (2 + 11) + 0 ≤ LL) (hk : k ≤ mc) (hk2 : n ≤ ms) (hw : (st.map fun v => v.category).sum ≤ 8) (d : decode cc pc = .ok (.invokevirtual ix, 3)) (q : Nat) (hq : pc + 3 = q) (h : xw0_at x0 x1 K u  Post) (kk : ∀ (r : Nat) (u2 : XS), Post r u2 → JJ X A Q nL (XP D dA A K u2) k n q lv (.ref r :: st)) : JJ X A Q nL (XP D dA A K u) k n pc lv (.int x1 :: .ref x0 :: st) :=
  jx_callVr (na := 1) (As := [.int x1]) hX hY jf0 h1a (fun sz => mxw0_at (jj_l X) hY.2.2.2.2 D dA aK aV x0 x1 K u  Post h sz) hlk q1092 qs34 q120 q1093 ⟨rfl, hd_xw0_at⟩ rfl rfl hw hF hL hk hk2 d q hq kk
theorem knxw0_at {X : JC} {A : Nat → Prop} {Q : State → Prop} {nL k n pc : Nat} {lv : List (Nat × Value)} {st : List Value} {own : String} {cc : ByteArray} {ret : Option FieldType} {F LL mc ms ix : Nat} {D : va_G} {dA aK aV : Nat → Nat} {K : XK} {u : XS} {x0 : Nat} {x1 : Int32} {host : String} {Post : Nat → XS → Prop} (hX : JX X own cc nL ret F LL mc ms) (hY : JY X D dA aK aV A) (h1a : K x0 = (1, 0)) (hlk : (Cond.methodLinkNest own ix yX0_at host) ∈ jx_nest) (hF : 0 + 1 ≤ F) (hL : 8 + (2 + 11) + 0 ≤ LL) (hk : k ≤ mc) (hk2 : n ≤ ms) (hw : (st.map fun v => v.category).sum ≤ 8) (d : decode cc pc = .ok (.invokevirtual ix, 3)) (q : Nat) (hq : pc + 3 = q) (h : xw0_at x0 x1 K u  Post) (kk : ∀ (r : Nat) (u2 : XS), Post r u2 → JJ X A Q nL (XP D dA A K u2) k n q lv (.ref r :: st)) : JJ X A Q nL (XP D dA A K u) k n pc lv (.int x1 :: .ref x0 :: st) :=
  jx_callNr (na := 1) (As := [.int x1]) hX hY jf0 h1a (fun sz => mxw0_at (jj_l X) hY.2.2.2.2 D dA aK aV x0 x1 K u  Post h sz) hlk q1092 qs34 q120 q1093 hd_xw0_at rfl rfl hw hF hL hk hk2 d q hq kk
def xw0_rule_B26 (Post : Int32 → XS → Prop) (K : XK) (x0 : Nat) (x1 : Int32) (x2 : Int32) (s0 : Int32) (s1 : Nat) (u : XS) : Prop :=
  K s1 = (1, 0) ∧
  ∀ u26 : XS, u26 = xsi u s1 7 s0 →
  K x0 = (1, 0) ∧
  ((xi u26 x0 7) ≤ 0 →
    (¬ x2 = 0 →
      (¬ x2 = (1 : Int32) →
        xw0_at x0 x1 K u26 (fun r75 u75 =>
          xRule K r75 ∧
          xabs_told r75 K u75 (fun r78 u78 =>
            Post r78 u78))) ∧
      (x2 = (1 : Int32) →
        xw0_at x0 x1 K u26 (fun r63 u63 =>
          xRule K r63 ∧
          ∃ b69, (xr u63 r63 1) = some b69 ∧
          ∃ n69, K b69 = (2, n69) ∧
          Post (nI n69) u63))) ∧
    (x2 = 0 →
      xw0_at x0 x1 K u26 (fun r46 u46 =>
        xRule K r46 ∧
        ∃ b52, (xr u46 r46 0) = some b52 ∧
        ∃ n52, K b52 = (3, n52) ∧
        Post (nI n52) u46))) ∧
  (¬ (xi u26 x0 7) ≤ 0 →
    Post (-1 : Int32) u26)
/-- RaisedPress.rule(II)I -/
def xw0_rule (x0 : Nat) (x1 : Int32) (x2 : Int32) (K : XK) (u : XS) (Post : Int32 → XS → Prop) : Prop :=
  K x0 = (1, 0) ∧
  xw0_isRule x0 x1 K u (fun r3 u3 =>
    (r3 = 0 →
      xw0_rule_B26 Post K x0 x1 x2 (1 : Int32) x0 u3) ∧
    (¬ r3 = 0 →
      xs_isIn x2.toInt64 (0 : Int64) (2 : Int64) (fun r15 =>
        (r15 = 0 →
          xw0_rule_B26 Post K x0 x1 x2 (1 : Int32) x0 u3) ∧
        (¬ r15 = 0 →
          xw0_rule_B26 Post K x0 x1 x2 (0 : Int32) x0 u3))))
set_option maxHeartbeats 4000000 in
set_option maxRecDepth 100000 in
theorem txw0_rule_B26 {X : JC} {D : va_G} {dA aK aV : Nat → Nat} {sz : Nat} {K : XK} {Post : Int32 → XS → Prop} {x0 : Nat} {x1 : Int32} {x2 : Int32} {s0 : Int32} {s1 : Nat} {u : XS} (hX : JX X yX0_rule.cls cX0_rule 3 (Option.some Jvm.ClassFile.FieldType.int) 2 46 0 0) (hY : JY X D dA aK aV (AX K sz)) (h : xw0_rule_B26 Post K x0 x1 x2 s0 s1 u) : JJ X (AX K sz) (jj_Q X (va_Qi (fun (r : Int32) (w : XS) => Post r w) (jx_B D dA K) (AX K sz)) 0 0 (AX K sz)) 3 (XP D dA (AX K sz) K u) 0 0 26 [(0, .ref x0), (1, .int x1), (2, .int x2)] [.int s0, .ref s1] := by
  unfold xw0_rule_B26 at h
  obtain ⟨k26, h⟩ := h
  refine xp0_7 hX hY k26 dX0_rule_26 q418 29 rfl (fun u26 e26 => ?_)
  have h := h u26 e26
  refine jj_aload_n hX dX0_rule_29 0 rfl 30 rfl ?_
  obtain ⟨k30, h⟩ := h
  refine xg0_7 hX hY k30 dX0_rule_30 q418 33 rfl ?_
  refine jj_if_le hX dX0_rule_33 40 36 (by decide) rfl (fun c33 => ?_) (fun c33 => ?_)
  · have h := h.1 c33
    refine jj_iload_n hX dX0_rule_40 2 rfl 41 rfl ?_
    refine jj_if_ne hX dX0_rule_41 56 44 (by decide) rfl (fun c41 => ?_) (fun c41 => ?_)
    · have h := h.1 c41
      refine jj_iload_n hX dX0_rule_56 2 rfl 57 rfl ?_
      refine jj_iconst hX dX0_rule_57 ci_1 58 rfl ?_
      refine jj_icmp_ne hX dX0_rule_58 73 61 (by decide) rfl (fun c58 => ?_) (fun c58 => ?_)
      · have h := h.1 c58
        refine jj_aload_n hX dX0_rule_73 0 rfl 74 rfl ?_
        refine jj_iload_n hX dX0_rule_74 1 rfl 75 rfl ?_
        refine kxw0_at hX hY k30 q1090 (Nat.le_of_ble_eq_true rfl) (Nat.le_of_ble_eq_true rfl) (Nat.zero_le _) (Nat.zero_le _) (Nat.le_of_ble_eq_true rfl) dX0_rule_75 78 rfl h (fun r75 u75 h => ?_)
        obtain ⟨k78, h⟩ := h
        refine kxabs_told hX hY k78 q1094 (Nat.le_of_ble_eq_true rfl) (Nat.le_of_ble_eq_true rfl) (Nat.zero_le _) (Nat.zero_le _) (Nat.le_of_ble_eq_true rfl) dX0_rule_78 81 rfl h (fun r78 u78 h => ?_)
        exact jj_reti (post := (fun (r : Int32) (w : XS) => Post r w)) (u := u78) hX dX0_rule_81 (Nat.le_refl 0) (Nat.le_refl 0) jx_hB h
      · have h := h.2 c58
        refine jj_aload_n hX dX0_rule_61 0 rfl 62 rfl ?_
        refine jj_iload_n hX dX0_rule_62 1 rfl 63 rfl ?_
        refine kxw0_at hX hY k30 q1090 (Nat.le_of_ble_eq_true rfl) (Nat.le_of_ble_eq_true rfl) (Nat.zero_le _) (Nat.zero_le _) (Nat.le_of_ble_eq_true rfl) dX0_rule_63 66 rfl h (fun r63 u63 h => ?_)
        obtain ⟨k66, h⟩ := h
        refine xgr_1 hX hY k66 dX0_rule_66 q777 69 rfl ?_
        obtain ⟨b69, g69, h⟩ := h
        refine jj_st (st2 := [.ref b69]) (by rw [va_rf_some g69]) ?_
        obtain ⟨n69, k69, h⟩ := h
        refine jx_alen hX hY.1 k69 dX0_rule_69 70 rfl ?_
        refine jj_goto hX dX0_rule_70 81 (by decide) ?_
        exact jj_reti (post := (fun (r : Int32) (w : XS) => Post r w)) (u := u63) hX dX0_rule_81 (Nat.le_refl 0) (Nat.le_refl 0) jx_hB h
    · have h := h.2 c41
      refine jj_aload_n hX dX0_rule_44 0 rfl 45 rfl ?_
      refine jj_iload_n hX dX0_rule_45 1 rfl 46 rfl ?_
      refine kxw0_at hX hY k30 q1090 (Nat.le_of_ble_eq_true rfl) (Nat.le_of_ble_eq_true rfl) (Nat.zero_le _) (Nat.zero_le _) (Nat.le_of_ble_eq_true rfl) dX0_rule_46 49 rfl h (fun r46 u46 h => ?_)
      obtain ⟨k49, h⟩ := h
      refine xgr_0 hX hY k49 dX0_rule_49 q774 52 rfl ?_
      obtain ⟨b52, g52, h⟩ := h
      refine jj_st (st2 := [.ref b52]) (by rw [va_rf_some g52]) ?_
      obtain ⟨n52, k52, h⟩ := h
      refine jx_alen hX hY.1 k52 dX0_rule_52 53 rfl ?_
      refine jj_goto hX dX0_rule_53 81 (by decide) ?_
      exact jj_reti (post := (fun (r : Int32) (w : XS) => Post r w)) (u := u46) hX dX0_rule_81 (Nat.le_refl 0) (Nat.le_refl 0) jx_hB h
  · have h := h.2 c33
    refine jj_iconst hX dX0_rule_36 ci_m1 37 rfl ?_
    refine jj_goto hX dX0_rule_37 81 (by decide) ?_
    exact jj_reti (post := (fun (r : Int32) (w : XS) => Post r w)) (u := u26) hX dX0_rule_81 (Nat.le_refl 0) (Nat.le_refl 0) jx_hB h
set_option maxHeartbeats 4000000 in
set_option maxRecDepth 100000 in
theorem mxw0_rule (l : Launch) (hfl : l.stackTraces = false) (D : va_G) (dA aK aV : Nat → Nat) (x0 : Nat) (x1 : Int32) (x2 : Int32) (K : XK) (u : XS) (Post : Int32 → XS → Prop) (h : xw0_rule x0 x1 x2 K u Post) (sz : Nat) : Met l yX0_rule (ws_ yX0_rule cX0_rule 3 (Option.some Jvm.ClassFile.FieldType.int)) (jx_rm 2 46 0 0) (jx_Pc D dA aK aV K u sz [.ref x0, .int x1, .int x2]) (va_Qi (fun (r : Int32) (w : XS) => Post r w) (jx_B D dA K) (AX K sz)) 0 0 (AX K sz) := by
  refine jx_start hfl [.ref x0, .int x1, .int x2] [(0, .ref x0), (1, .int x1), (2, .int x2)] (by decide) (Nat.le_of_ble_eq_true rfl) rfl (fun X hX hY hin => ?_)
  unfold xw0_rule at h
  refine jj_aload_n hX dX0_rule_0 0 rfl 1 rfl ?_
  refine jj_aload_n hX dX0_rule_1 0 rfl 2 rfl ?_
  refine jj_iload_n hX dX0_rule_2 1 rfl 3 rfl ?_
  obtain ⟨k3, h⟩ := h
  refine kxw0_isRule hX hY k3 q1085 (Nat.le_of_ble_eq_true rfl) (Nat.le_of_ble_eq_true rfl) (Nat.zero_le _) (Nat.zero_le _) (Nat.le_of_ble_eq_true rfl) dX0_rule_3 6 rfl h (fun r3 u3 hb3 h => ?_)
  refine jj_if_eq hX dX0_rule_6 25 9 (by decide) rfl (fun c6 => ?_) (fun c6 => ?_)
  · have h := h.1 c6
    refine jj_iconst hX dX0_rule_25 ci_1 26 rfl ?_
    exact txw0_rule_B26 hX hY h
  · have h := h.2 c6
    refine jj_iload_n hX dX0_rule_9 2 rfl 10 rfl ?_
    refine jj_i2l hX dX0_rule_10 11 rfl ?_
    refine jj_lconst (v := 0) hX dX0_rule_11 (by decide) 12 rfl ?_
    refine jj_ldc2 (v := 2) hX dX0_rule_12 q1089 15 rfl ?_
    refine kxs_isIn hX XP.keeps q1074 (Nat.le_of_ble_eq_true rfl) (Nat.le_of_ble_eq_true rfl) (Nat.zero_le _) (Nat.zero_le _) (Nat.le_of_ble_eq_true rfl) dX0_rule_15 18 rfl h (fun r15 hb15 h => ?_)
    refine jj_if_eq hX dX0_rule_18 25 21 (by decide) rfl (fun c18 => ?_) (fun c18 => ?_)
    · have h := h.1 c18
      refine jj_iconst hX dX0_rule_25 ci_1 26 rfl ?_
      exact txw0_rule_B26 hX hY h
    · have h := h.2 c18
      refine jj_iconst hX dX0_rule_21 ci_0 22 rfl ?_
      refine jj_goto hX dX0_rule_22 26 (by decide) ?_
      exact txw0_rule_B26 hX hY h
theorem hd_xw0_rule : yX0_rule.cls ≠ "java/lang/invoke/MethodHandle" ∧ yX0_rule.cls ≠ "java/lang/invoke/VarHandle" ∧ (parseMethodDescriptor yX0_rule.desc).map (fun d => d.parameters.length) = some 2 := by decide +kernel
theorem kxw0_rule {X : JC} {A : Nat → Prop} {Q : State → Prop} {nL k n pc : Nat} {lv : List (Nat × Value)} {st : List Value} {own : String} {cc : ByteArray} {ret : Option FieldType} {F LL mc ms ix : Nat} {D : va_G} {dA aK aV : Nat → Nat} {K : XK} {u : XS} {x0 : Nat} {x1 : Int32} {x2 : Int32} {Post : Int32 → XS → Prop} (hX : JX X own cc nL ret F LL mc ms) (hY : JY X D dA aK aV A) (h1a : K x0 = (1, 0)) (hlk : (Cond.methodLink own ix yX0_rule) ∈ lw_all) (hF : 2 + 1 ≤ F) (hL : 8 + (3 + 11) + 46 ≤ LL) (hk : k ≤ mc) (hk2 : n ≤ ms) (hw : (st.map fun v => v.category).sum ≤ 8) (d : decode cc pc = .ok (.invokevirtual ix, 3)) (q : Nat) (hq : pc + 3 = q) (h : xw0_rule x0 x1 x2 K u  Post) (kk : ∀ (r : Int32) (u2 : XS), Post r u2 → JJ X A Q nL (XP D dA A K u2) k n q lv (.int r :: st)) : JJ X A Q nL (XP D dA A K u) k n pc lv (.int x2 :: .int x1 :: .ref x0 :: st) :=
  jx_callVi (na := 2) (As := [.int x1, .int x2]) hX hY jf0 h1a (fun sz => mxw0_rule (jj_l X) hY.2.2.2.2 D dA aK aV x0 x1 x2 K u  Post h sz) hlk q1082 q1083 q120 q1084 ⟨rfl, hd_xw0_rule⟩ rfl rfl hw hF hL hk hk2 d q hq kk
theorem knxw0_rule {X : JC} {A : Nat → Prop} {Q : State → Prop} {nL k n pc : Nat} {lv : List (Nat × Value)} {st : List Value} {own : String} {cc : ByteArray} {ret : Option FieldType} {F LL mc ms ix : Nat} {D : va_G} {dA aK aV : Nat → Nat} {K : XK} {u : XS} {x0 : Nat} {x1 : Int32} {x2 : Int32} {host : String} {Post : Int32 → XS → Prop} (hX : JX X own cc nL ret F LL mc ms) (hY : JY X D dA aK aV A) (h1a : K x0 = (1, 0)) (hlk : (Cond.methodLinkNest own ix yX0_rule host) ∈ jx_nest) (hF : 2 + 1 ≤ F) (hL : 8 + (3 + 11) + 46 ≤ LL) (hk : k ≤ mc) (hk2 : n ≤ ms) (hw : (st.map fun v => v.category).sum ≤ 8) (d : decode cc pc = .ok (.invokevirtual ix, 3)) (q : Nat) (hq : pc + 3 = q) (h : xw0_rule x0 x1 x2 K u  Post) (kk : ∀ (r : Int32) (u2 : XS), Post r u2 → JJ X A Q nL (XP D dA A K u2) k n q lv (.int r :: st)) : JJ X A Q nL (XP D dA A K u) k n pc lv (.int x2 :: .int x1 :: .ref x0 :: st) :=
  jx_callNi (na := 2) (As := [.int x1, .int x2]) hX hY jf0 h1a (fun sz => mxw0_rule (jj_l X) hY.2.2.2.2 D dA aK aV x0 x1 x2 K u  Post h sz) hlk q1082 q1083 q120 q1084 hd_xw0_rule rfl rfl hw hF hL hk hk2 d q hq kk
def xw0_letter_B40 (Post : Int32 → XS → Prop) (K : XK) (x0 : Nat) (x1 : Int32) (x2 : Int32) (s0 : Int32) (s1 : Nat) (u : XS) : Prop :=
  K s1 = (1, 0) ∧
  ∀ u40 : XS, u40 = xsi u s1 7 s0 →
  K x0 = (1, 0) ∧
  ((xi u40 x0 7) ≤ 0 →
    xw0_at x0 x1 K u40 (fun r56 u56 =>
      xRule K r56 ∧
      ∃ b63, (xr u56 r56 0) = some b63 ∧
      ∃ n63, K b63 = (3, n63) ∧
      vp_in x2 n63 ∧
      Post ((xi u56 b63 x2.toNatClampNeg) - (96 : Int32)) u56)) ∧
  (¬ (xi u40 x0 7) ≤ 0 →
    Post (-1 : Int32) u40)
/-- RaisedPress.letter(II)I -/
def xw0_letter (x0 : Nat) (x1 : Int32) (x2 : Int32) (K : XK) (u : XS) (Post : Int32 → XS → Prop) : Prop :=
  K x0 = (1, 0) ∧
  xw0_isRule x0 x1 K u (fun r3 u3 =>
    (¬ r3 = 0 →
      xw0_at x0 x1 K u3 (fun r18 u18 =>
        xRule K r18 ∧
        ∃ b24, (xr u18 r18 0) = some b24 ∧
        ∃ n24, K b24 = (3, n24) ∧
        xs_isIn x2.toInt64 (0 : Int64) ((nI n24) - (1 : Int32)).toInt64 (fun r28 =>
          (r28 = 0 →
            xw0_letter_B40 Post K x0 x1 x2 (6 : Int32) x0 u18) ∧
          (¬ r28 = 0 →
            xw0_letter_B40 Post K x0 x1 x2 (0 : Int32) x0 u18)))) ∧
    (r3 = 0 →
      xw0_letter_B40 Post K x0 x1 x2 (1 : Int32) x0 u3))
set_option maxHeartbeats 4000000 in
set_option maxRecDepth 100000 in
theorem txw0_letter_B40 {X : JC} {D : va_G} {dA aK aV : Nat → Nat} {sz : Nat} {K : XK} {Post : Int32 → XS → Prop} {x0 : Nat} {x1 : Int32} {x2 : Int32} {s0 : Int32} {s1 : Nat} {u : XS} (hX : JX X yX0_letter.cls cX0_letter 3 (Option.some Jvm.ClassFile.FieldType.int) 2 46 0 0) (hY : JY X D dA aK aV (AX K sz)) (h : xw0_letter_B40 Post K x0 x1 x2 s0 s1 u) : JJ X (AX K sz) (jj_Q X (va_Qi (fun (r : Int32) (w : XS) => Post r w) (jx_B D dA K) (AX K sz)) 0 0 (AX K sz)) 3 (XP D dA (AX K sz) K u) 0 0 40 [(0, .ref x0), (1, .int x1), (2, .int x2)] [.int s0, .ref s1] := by
  unfold xw0_letter_B40 at h
  obtain ⟨k40, h⟩ := h
  refine xp0_7 hX hY k40 dX0_letter_40 q418 43 rfl (fun u40 e40 => ?_)
  have h := h u40 e40
  refine jj_aload_n hX dX0_letter_43 0 rfl 44 rfl ?_
  obtain ⟨k44, h⟩ := h
  refine xg0_7 hX hY k44 dX0_letter_44 q418 47 rfl ?_
  refine jj_if_le hX dX0_letter_47 54 50 (by decide) rfl (fun c47 => ?_) (fun c47 => ?_)
  · have h := h.1 c47
    refine jj_aload_n hX dX0_letter_54 0 rfl 55 rfl ?_
    refine jj_iload_n hX dX0_letter_55 1 rfl 56 rfl ?_
    refine kxw0_at hX hY k44 q1090 (Nat.le_of_ble_eq_true rfl) (Nat.le_of_ble_eq_true rfl) (Nat.zero_le _) (Nat.zero_le _) (Nat.le_of_ble_eq_true rfl) dX0_letter_56 59 rfl h (fun r56 u56 h => ?_)
    obtain ⟨k59, h⟩ := h
    refine xgr_0 hX hY k59 dX0_letter_59 q774 62 rfl ?_
    refine jj_iload_n hX dX0_letter_62 2 rfl 63 rfl ?_
    obtain ⟨b63, g63, h⟩ := h
    refine jj_st (st2 := [.int x2, .ref b63]) (by rw [va_rf_some g63]) ?_
    obtain ⟨n63, k63, h⟩ := h
    obtain ⟨hi63, h⟩ := h
    refine jx_bald hX hY.1 k63 _ rfl hi63 dX0_letter_63 64 rfl ?_
    refine jj_bipush hX dX0_letter_64 cb_96 66 rfl ?_
    refine jj_isub hX dX0_letter_66 67 rfl ?_
    exact jj_reti (post := (fun (r : Int32) (w : XS) => Post r w)) (u := u56) hX dX0_letter_67 (Nat.le_refl 0) (Nat.le_refl 0) jx_hB h
  · have h := h.2 c47
    refine jj_iconst hX dX0_letter_50 ci_m1 51 rfl ?_
    refine jj_goto hX dX0_letter_51 67 (by decide) ?_
    exact jj_reti (post := (fun (r : Int32) (w : XS) => Post r w)) (u := u40) hX dX0_letter_67 (Nat.le_refl 0) (Nat.le_refl 0) jx_hB h
set_option maxHeartbeats 4000000 in
set_option maxRecDepth 100000 in
theorem mxw0_letter (l : Launch) (hfl : l.stackTraces = false) (D : va_G) (dA aK aV : Nat → Nat) (x0 : Nat) (x1 : Int32) (x2 : Int32) (K : XK) (u : XS) (Post : Int32 → XS → Prop) (h : xw0_letter x0 x1 x2 K u Post) (sz : Nat) : Met l yX0_letter (ws_ yX0_letter cX0_letter 3 (Option.some Jvm.ClassFile.FieldType.int)) (jx_rm 2 46 0 0) (jx_Pc D dA aK aV K u sz [.ref x0, .int x1, .int x2]) (va_Qi (fun (r : Int32) (w : XS) => Post r w) (jx_B D dA K) (AX K sz)) 0 0 (AX K sz) := by
  refine jx_start hfl [.ref x0, .int x1, .int x2] [(0, .ref x0), (1, .int x1), (2, .int x2)] (by decide) (Nat.le_of_ble_eq_true rfl) rfl (fun X hX hY hin => ?_)
  unfold xw0_letter at h
  refine jj_aload_n hX dX0_letter_0 0 rfl 1 rfl ?_
  refine jj_aload_n hX dX0_letter_1 0 rfl 2 rfl ?_
  refine jj_iload_n hX dX0_letter_2 1 rfl 3 rfl ?_
  obtain ⟨k3, h⟩ := h
  refine kxw0_isRule hX hY k3 q1085 (Nat.le_of_ble_eq_true rfl) (Nat.le_of_ble_eq_true rfl) (Nat.zero_le _) (Nat.zero_le _) (Nat.le_of_ble_eq_true rfl) dX0_letter_3 6 rfl h (fun r3 u3 hb3 h => ?_)
  refine jj_if_ne hX dX0_letter_6 13 9 (by decide) rfl (fun c6 => ?_) (fun c6 => ?_)
  · have h := h.1 c6
    refine jj_iload_n hX dX0_letter_13 2 rfl 14 rfl ?_
    refine jj_i2l hX dX0_letter_14 15 rfl ?_
    refine jj_lconst (v := 0) hX dX0_letter_15 (by decide) 16 rfl ?_
    refine jj_aload_n hX dX0_letter_16 0 rfl 17 rfl ?_
    refine jj_iload_n hX dX0_letter_17 1 rfl 18 rfl ?_
    refine kxw0_at hX hY k3 q1090 (Nat.le_of_ble_eq_true rfl) (Nat.le_of_ble_eq_true rfl) (Nat.zero_le _) (Nat.zero_le _) (Nat.le_of_ble_eq_true rfl) dX0_letter_18 21 rfl h (fun r18 u18 h => ?_)
    obtain ⟨k21, h⟩ := h
    refine xgr_0 hX hY k21 dX0_letter_21 q774 24 rfl ?_
    obtain ⟨b24, g24, h⟩ := h
    refine jj_st (st2 := [.ref b24, .long (0 : Int64), .long x2.toInt64, .ref x0]) (by rw [va_rf_some g24]) ?_
    obtain ⟨n24, k24, h⟩ := h
    refine jx_alen hX hY.1 k24 dX0_letter_24 25 rfl ?_
    refine jj_iconst hX dX0_letter_25 ci_1 26 rfl ?_
    refine jj_isub hX dX0_letter_26 27 rfl ?_
    refine jj_i2l hX dX0_letter_27 28 rfl ?_
    refine kxs_isIn hX XP.keeps q1074 (Nat.le_of_ble_eq_true rfl) (Nat.le_of_ble_eq_true rfl) (Nat.zero_le _) (Nat.zero_le _) (Nat.le_of_ble_eq_true rfl) dX0_letter_28 31 rfl h (fun r28 hb28 h => ?_)
    refine jj_if_eq hX dX0_letter_31 38 34 (by decide) rfl (fun c31 => ?_) (fun c31 => ?_)
    · have h := h.1 c31
      refine jj_bipush hX dX0_letter_38 cb_6 40 rfl ?_
      exact txw0_letter_B40 hX hY h
    · have h := h.2 c31
      refine jj_iconst hX dX0_letter_34 ci_0 35 rfl ?_
      refine jj_goto hX dX0_letter_35 40 (by decide) ?_
      exact txw0_letter_B40 hX hY h
  · have h := h.2 c6
    refine jj_iconst hX dX0_letter_9 ci_1 10 rfl ?_
    refine jj_goto hX dX0_letter_10 40 (by decide) ?_
    exact txw0_letter_B40 hX hY h
theorem hd_xw0_letter : yX0_letter.cls ≠ "java/lang/invoke/MethodHandle" ∧ yX0_letter.cls ≠ "java/lang/invoke/VarHandle" ∧ (parseMethodDescriptor yX0_letter.desc).map (fun d => d.parameters.length) = some 2 := by decide +kernel
theorem kxw0_letter {X : JC} {A : Nat → Prop} {Q : State → Prop} {nL k n pc : Nat} {lv : List (Nat × Value)} {st : List Value} {own : String} {cc : ByteArray} {ret : Option FieldType} {F LL mc ms ix : Nat} {D : va_G} {dA aK aV : Nat → Nat} {K : XK} {u : XS} {x0 : Nat} {x1 : Int32} {x2 : Int32} {Post : Int32 → XS → Prop} (hX : JX X own cc nL ret F LL mc ms) (hY : JY X D dA aK aV A) (h1a : K x0 = (1, 0)) (hlk : (Cond.methodLink own ix yX0_letter) ∈ lw_all) (hF : 2 + 1 ≤ F) (hL : 8 + (3 + 11) + 46 ≤ LL) (hk : k ≤ mc) (hk2 : n ≤ ms) (hw : (st.map fun v => v.category).sum ≤ 8) (d : decode cc pc = .ok (.invokevirtual ix, 3)) (q : Nat) (hq : pc + 3 = q) (h : xw0_letter x0 x1 x2 K u  Post) (kk : ∀ (r : Int32) (u2 : XS), Post r u2 → JJ X A Q nL (XP D dA A K u2) k n q lv (.int r :: st)) : JJ X A Q nL (XP D dA A K u) k n pc lv (.int x2 :: .int x1 :: .ref x0 :: st) :=
  jx_callVi (na := 2) (As := [.int x1, .int x2]) hX hY jf0 h1a (fun sz => mxw0_letter (jj_l X) hY.2.2.2.2 D dA aK aV x0 x1 x2 K u  Post h sz) hlk q1096 q1097 q120 q1098 ⟨rfl, hd_xw0_letter⟩ rfl rfl hw hF hL hk hk2 d q hq kk
theorem knxw0_letter {X : JC} {A : Nat → Prop} {Q : State → Prop} {nL k n pc : Nat} {lv : List (Nat × Value)} {st : List Value} {own : String} {cc : ByteArray} {ret : Option FieldType} {F LL mc ms ix : Nat} {D : va_G} {dA aK aV : Nat → Nat} {K : XK} {u : XS} {x0 : Nat} {x1 : Int32} {x2 : Int32} {host : String} {Post : Int32 → XS → Prop} (hX : JX X own cc nL ret F LL mc ms) (hY : JY X D dA aK aV A) (h1a : K x0 = (1, 0)) (hlk : (Cond.methodLinkNest own ix yX0_letter host) ∈ jx_nest) (hF : 2 + 1 ≤ F) (hL : 8 + (3 + 11) + 46 ≤ LL) (hk : k ≤ mc) (hk2 : n ≤ ms) (hw : (st.map fun v => v.category).sum ≤ 8) (d : decode cc pc = .ok (.invokevirtual ix, 3)) (q : Nat) (hq : pc + 3 = q) (h : xw0_letter x0 x1 x2 K u  Post) (kk : ∀ (r : Int32) (u2 : XS), Post r u2 → JJ X A Q nL (XP D dA A K u2) k n q lv (.int r :: st)) : JJ X A Q nL (XP D dA A K u) k n pc lv (.int x2 :: .int x1 :: .ref x0 :: st) :=
  jx_callNi (na := 2) (As := [.int x1, .int x2]) hX hY jf0 h1a (fun sz => mxw0_letter (jj_l X) hY.2.2.2.2 D dA aK aV x0 x1 x2 K u  Post h sz) hlk q1096 q1097 q120 q1098 hd_xw0_letter rfl rfl hw hF hL hk hk2 d q hq kk
def xw0_cellOf_B40 (Post : Int32 → XS → Prop) (K : XK) (x0 : Nat) (x1 : Int32) (x2 : Int32) (s0 : Int32) (s1 : Nat) (u : XS) : Prop :=
  K s1 = (1, 0) ∧
  ∀ u40 : XS, u40 = xsi u s1 7 s0 →
  K x0 = (1, 0) ∧
  ((xi u40 x0 7) ≤ 0 →
    xw0_at x0 x1 K u40 (fun r56 u56 =>
      xRule K r56 ∧
      ∃ b63, (xr u56 r56 1) = some b63 ∧
      ∃ n63, K b63 = (2, n63) ∧
      vp_in x2 n63 ∧
      Post (xi u56 b63 x2.toNatClampNeg) u56)) ∧
  (¬ (xi u40 x0 7) ≤ 0 →
    Post (-1 : Int32) u40)
/-- RaisedPress.cellOf(II)I -/
def xw0_cellOf (x0 : Nat) (x1 : Int32) (x2 : Int32) (K : XK) (u : XS) (Post : Int32 → XS → Prop) : Prop :=
  K x0 = (1, 0) ∧
  xw0_isRule x0 x1 K u (fun r3 u3 =>
    (¬ r3 = 0 →
      xw0_at x0 x1 K u3 (fun r18 u18 =>
        xRule K r18 ∧
        ∃ b24, (xr u18 r18 1) = some b24 ∧
        ∃ n24, K b24 = (2, n24) ∧
        xs_isIn x2.toInt64 (0 : Int64) ((nI n24) - (1 : Int32)).toInt64 (fun r28 =>
          (r28 = 0 →
            xw0_cellOf_B40 Post K x0 x1 x2 (6 : Int32) x0 u18) ∧
          (¬ r28 = 0 →
            xw0_cellOf_B40 Post K x0 x1 x2 (0 : Int32) x0 u18)))) ∧
    (r3 = 0 →
      xw0_cellOf_B40 Post K x0 x1 x2 (1 : Int32) x0 u3))
set_option maxHeartbeats 4000000 in
set_option maxRecDepth 100000 in
theorem txw0_cellOf_B40 {X : JC} {D : va_G} {dA aK aV : Nat → Nat} {sz : Nat} {K : XK} {Post : Int32 → XS → Prop} {x0 : Nat} {x1 : Int32} {x2 : Int32} {s0 : Int32} {s1 : Nat} {u : XS} (hX : JX X yX0_cellOf.cls cX0_cellOf 3 (Option.some Jvm.ClassFile.FieldType.int) 2 46 0 0) (hY : JY X D dA aK aV (AX K sz)) (h : xw0_cellOf_B40 Post K x0 x1 x2 s0 s1 u) : JJ X (AX K sz) (jj_Q X (va_Qi (fun (r : Int32) (w : XS) => Post r w) (jx_B D dA K) (AX K sz)) 0 0 (AX K sz)) 3 (XP D dA (AX K sz) K u) 0 0 40 [(0, .ref x0), (1, .int x1), (2, .int x2)] [.int s0, .ref s1] := by
  unfold xw0_cellOf_B40 at h
  obtain ⟨k40, h⟩ := h
  refine xp0_7 hX hY k40 dX0_cellOf_40 q418 43 rfl (fun u40 e40 => ?_)
  have h := h u40 e40
  refine jj_aload_n hX dX0_cellOf_43 0 rfl 44 rfl ?_
  obtain ⟨k44, h⟩ := h
  refine xg0_7 hX hY k44 dX0_cellOf_44 q418 47 rfl ?_
  refine jj_if_le hX dX0_cellOf_47 54 50 (by decide) rfl (fun c47 => ?_) (fun c47 => ?_)
  · have h := h.1 c47
    refine jj_aload_n hX dX0_cellOf_54 0 rfl 55 rfl ?_
    refine jj_iload_n hX dX0_cellOf_55 1 rfl 56 rfl ?_
    refine kxw0_at hX hY k44 q1090 (Nat.le_of_ble_eq_true rfl) (Nat.le_of_ble_eq_true rfl) (Nat.zero_le _) (Nat.zero_le _) (Nat.le_of_ble_eq_true rfl) dX0_cellOf_56 59 rfl h (fun r56 u56 h => ?_)
    obtain ⟨k59, h⟩ := h
    refine xgr_1 hX hY k59 dX0_cellOf_59 q777 62 rfl ?_
    refine jj_iload_n hX dX0_cellOf_62 2 rfl 63 rfl ?_
    obtain ⟨b63, g63, h⟩ := h
    refine jj_st (st2 := [.int x2, .ref b63]) (by rw [va_rf_some g63]) ?_
    obtain ⟨n63, k63, h⟩ := h
    obtain ⟨hi63, h⟩ := h
    refine jx_iald hX hY.1 k63 _ rfl hi63 dX0_cellOf_63 64 rfl ?_
    exact jj_reti (post := (fun (r : Int32) (w : XS) => Post r w)) (u := u56) hX dX0_cellOf_64 (Nat.le_refl 0) (Nat.le_refl 0) jx_hB h
  · have h := h.2 c47
    refine jj_iconst hX dX0_cellOf_50 ci_m1 51 rfl ?_
    refine jj_goto hX dX0_cellOf_51 64 (by decide) ?_
    exact jj_reti (post := (fun (r : Int32) (w : XS) => Post r w)) (u := u40) hX dX0_cellOf_64 (Nat.le_refl 0) (Nat.le_refl 0) jx_hB h
set_option maxHeartbeats 4000000 in
set_option maxRecDepth 100000 in
theorem mxw0_cellOf (l : Launch) (hfl : l.stackTraces = false) (D : va_G) (dA aK aV : Nat → Nat) (x0 : Nat) (x1 : Int32) (x2 : Int32) (K : XK) (u : XS) (Post : Int32 → XS → Prop) (h : xw0_cellOf x0 x1 x2 K u Post) (sz : Nat) : Met l yX0_cellOf (ws_ yX0_cellOf cX0_cellOf 3 (Option.some Jvm.ClassFile.FieldType.int)) (jx_rm 2 46 0 0) (jx_Pc D dA aK aV K u sz [.ref x0, .int x1, .int x2]) (va_Qi (fun (r : Int32) (w : XS) => Post r w) (jx_B D dA K) (AX K sz)) 0 0 (AX K sz) := by
  refine jx_start hfl [.ref x0, .int x1, .int x2] [(0, .ref x0), (1, .int x1), (2, .int x2)] (by decide) (Nat.le_of_ble_eq_true rfl) rfl (fun X hX hY hin => ?_)
  unfold xw0_cellOf at h
  refine jj_aload_n hX dX0_cellOf_0 0 rfl 1 rfl ?_
  refine jj_aload_n hX dX0_cellOf_1 0 rfl 2 rfl ?_
  refine jj_iload_n hX dX0_cellOf_2 1 rfl 3 rfl ?_
  obtain ⟨k3, h⟩ := h
  refine kxw0_isRule hX hY k3 q1085 (Nat.le_of_ble_eq_true rfl) (Nat.le_of_ble_eq_true rfl) (Nat.zero_le _) (Nat.zero_le _) (Nat.le_of_ble_eq_true rfl) dX0_cellOf_3 6 rfl h (fun r3 u3 hb3 h => ?_)
  refine jj_if_ne hX dX0_cellOf_6 13 9 (by decide) rfl (fun c6 => ?_) (fun c6 => ?_)
  · have h := h.1 c6
    refine jj_iload_n hX dX0_cellOf_13 2 rfl 14 rfl ?_
    refine jj_i2l hX dX0_cellOf_14 15 rfl ?_
    refine jj_lconst (v := 0) hX dX0_cellOf_15 (by decide) 16 rfl ?_
    refine jj_aload_n hX dX0_cellOf_16 0 rfl 17 rfl ?_
    refine jj_iload_n hX dX0_cellOf_17 1 rfl 18 rfl ?_
    refine kxw0_at hX hY k3 q1090 (Nat.le_of_ble_eq_true rfl) (Nat.le_of_ble_eq_true rfl) (Nat.zero_le _) (Nat.zero_le _) (Nat.le_of_ble_eq_true rfl) dX0_cellOf_18 21 rfl h (fun r18 u18 h => ?_)
    obtain ⟨k21, h⟩ := h
    refine xgr_1 hX hY k21 dX0_cellOf_21 q777 24 rfl ?_
    obtain ⟨b24, g24, h⟩ := h
    refine jj_st (st2 := [.ref b24, .long (0 : Int64), .long x2.toInt64, .ref x0]) (by rw [va_rf_some g24]) ?_
    obtain ⟨n24, k24, h⟩ := h
    refine jx_alen hX hY.1 k24 dX0_cellOf_24 25 rfl ?_
    refine jj_iconst hX dX0_cellOf_25 ci_1 26 rfl ?_
    refine jj_isub hX dX0_cellOf_26 27 rfl ?_
    refine jj_i2l hX dX0_cellOf_27 28 rfl ?_
    refine kxs_isIn hX XP.keeps q1074 (Nat.le_of_ble_eq_true rfl) (Nat.le_of_ble_eq_true rfl) (Nat.zero_le _) (Nat.zero_le _) (Nat.le_of_ble_eq_true rfl) dX0_cellOf_28 31 rfl h (fun r28 hb28 h => ?_)
    refine jj_if_eq hX dX0_cellOf_31 38 34 (by decide) rfl (fun c31 => ?_) (fun c31 => ?_)
    · have h := h.1 c31
      refine jj_bipush hX dX0_cellOf_38 cb_6 40 rfl ?_
      exact txw0_cellOf_B40 hX hY h
    · have h := h.2 c31
      refine jj_iconst hX dX0_cellOf_34 ci_0 35 rfl ?_
      refine jj_goto hX dX0_cellOf_35 40 (by decide) ?_
      exact txw0_cellOf_B40 hX hY h
  · have h := h.2 c6
    refine jj_iconst hX dX0_cellOf_9 ci_1 10 rfl ?_
    refine jj_goto hX dX0_cellOf_10 40 (by decide) ?_
    exact txw0_cellOf_B40 hX hY h
theorem hd_xw0_cellOf : yX0_cellOf.cls ≠ "java/lang/invoke/MethodHandle" ∧ yX0_cellOf.cls ≠ "java/lang/invoke/VarHandle" ∧ (parseMethodDescriptor yX0_cellOf.desc).map (fun d => d.parameters.length) = some 2 := by decide +kernel
theorem kxw0_cellOf {X : JC} {A : Nat → Prop} {Q : State → Prop} {nL k n pc : Nat} {lv : List (Nat × Value)} {st : List Value} {own : String} {cc : ByteArray} {ret : Option FieldType} {F LL mc ms ix : Nat} {D : va_G} {dA aK aV : Nat → Nat} {K : XK} {u : XS} {x0 : Nat} {x1 : Int32} {x2 : Int32} {Post : Int32 → XS → Prop} (hX : JX X own cc nL ret F LL mc ms) (hY : JY X D dA aK aV A) (h1a : K x0 = (1, 0)) (hlk : (Cond.methodLink own ix yX0_cellOf) ∈ lw_all) (hF : 2 + 1 ≤ F) (hL : 8 + (3 + 11) + 46 ≤ LL) (hk : k ≤ mc) (hk2 : n ≤ ms) (hw : (st.map fun v => v.category).sum ≤ 8) (d : decode cc pc = .ok (.invokevirtual ix, 3)) (q : Nat) (hq : pc + 3 = q) (h : xw0_cellOf x0 x1 x2 K u  Post) (kk : ∀ (r : Int32) (u2 : XS), Post r u2 → JJ X A Q nL (XP D dA A K u2) k n q lv (.int r :: st)) : JJ X A Q nL (XP D dA A K u) k n pc lv (.int x2 :: .int x1 :: .ref x0 :: st) :=
  jx_callVi (na := 2) (As := [.int x1, .int x2]) hX hY jf0 h1a (fun sz => mxw0_cellOf (jj_l X) hY.2.2.2.2 D dA aK aV x0 x1 x2 K u  Post h sz) hlk q1100 q1101 q120 q1102 ⟨rfl, hd_xw0_cellOf⟩ rfl rfl hw hF hL hk hk2 d q hq kk
theorem knxw0_cellOf {X : JC} {A : Nat → Prop} {Q : State → Prop} {nL k n pc : Nat} {lv : List (Nat × Value)} {st : List Value} {own : String} {cc : ByteArray} {ret : Option FieldType} {F LL mc ms ix : Nat} {D : va_G} {dA aK aV : Nat → Nat} {K : XK} {u : XS} {x0 : Nat} {x1 : Int32} {x2 : Int32} {host : String} {Post : Int32 → XS → Prop} (hX : JX X own cc nL ret F LL mc ms) (hY : JY X D dA aK aV A) (h1a : K x0 = (1, 0)) (hlk : (Cond.methodLinkNest own ix yX0_cellOf host) ∈ jx_nest) (hF : 2 + 1 ≤ F) (hL : 8 + (3 + 11) + 46 ≤ LL) (hk : k ≤ mc) (hk2 : n ≤ ms) (hw : (st.map fun v => v.category).sum ≤ 8) (d : decode cc pc = .ok (.invokevirtual ix, 3)) (q : Nat) (hq : pc + 3 = q) (h : xw0_cellOf x0 x1 x2 K u  Post) (kk : ∀ (r : Int32) (u2 : XS), Post r u2 → JJ X A Q nL (XP D dA A K u2) k n q lv (.int r :: st)) : JJ X A Q nL (XP D dA A K u) k n pc lv (.int x2 :: .int x1 :: .ref x0 :: st) :=
  jx_callNi (na := 2) (As := [.int x1, .int x2]) hX hY jf0 h1a (fun sz => mxw0_cellOf (jj_l X) hY.2.2.2.2 D dA aK aV x0 x1 x2 K u  Post h sz) hlk q1100 q1101 q120 q1102 hd_xw0_cellOf rfl rfl hw hF hL hk hk2 d q hq kk
def xw0_drop_B14 (Post : Int32 → XS → Prop) (K : XK) (x0 : Nat) (x1 : Int32) (x2 : Int32) (s0 : Int32) (s1 : Nat) (u : XS) : Prop :=
  K s1 = (1, 0) ∧
  ∀ u14 : XS, u14 = xsi u s1 7 s0 →
  K x0 = (1, 0) ∧
  (¬ (xi u14 x0 7) = 0 →
    (¬ (xi u14 x0 7) = 0 →
      Post (0 : Int32) u14) ∧
    ((xi u14 x0 7) = 0 →
      Post (1 : Int32) u14)) ∧
  ((xi u14 x0 7) = 0 →
    (x2 = 0 →
      ∃ b50, (xr u14 x0 10) = some b50 ∧
      K b50 = (1, 4) ∧
      ∃ b59, (xr u14 x0 10) = some b59 ∧
      K b59 = (1, 4) ∧
      ∀ u59 : XS, u59 = xsi u14 b59 1 ((xi u14 b50 1) &&& (((1 : Int32) <<< (x1 &&& 31)) ^^^ (-1 : Int32))) →
      (¬ (xi u59 x0 7) = 0 →
        Post (0 : Int32) u59) ∧
      ((xi u59 x0 7) = 0 →
        Post (1 : Int32) u59)) ∧
    (¬ x2 = 0 →
      ∃ b36, (xr u14 x0 10) = some b36 ∧
      K b36 = (1, 4) ∧
      ∃ b59, (xr u14 x0 10) = some b59 ∧
      K b59 = (1, 4) ∧
      ∀ u59 : XS, u59 = xsi u14 b59 1 ((xi u14 b36 1) ||| ((1 : Int32) <<< (x1 &&& 31))) →
      (¬ (xi u59 x0 7) = 0 →
        Post (0 : Int32) u59) ∧
      ((xi u59 x0 7) = 0 →
        Post (1 : Int32) u59)))
/-- RaisedPress.drop(IZ)Z -/
def xw0_drop (x0 : Nat) (x1 : Int32) (x2 : Int32) (K : XK) (u : XS) (Post : Int32 → XS → Prop) : Prop :=
  K x0 = (1, 0) ∧
  xw0_isRule x0 x1 K u (fun r3 u3 =>
    (r3 = 0 →
      xw0_drop_B14 Post K x0 x1 x2 (1 : Int32) x0 u3) ∧
    (¬ r3 = 0 →
      xw0_drop_B14 Post K x0 x1 x2 (0 : Int32) x0 u3))
set_option maxHeartbeats 4000000 in
set_option maxRecDepth 100000 in
theorem txw0_drop_B14 {X : JC} {D : va_G} {dA aK aV : Nat → Nat} {sz : Nat} {K : XK} {Post : Int32 → XS → Prop} {x0 : Nat} {x1 : Int32} {x2 : Int32} {s0 : Int32} {s1 : Nat} {u : XS} (hX : JX X yX0_drop.cls cX0_drop 3 (Option.some Jvm.ClassFile.FieldType.boolean) 2 46 0 0) (hY : JY X D dA aK aV (AX K sz)) (h : xw0_drop_B14 Post K x0 x1 x2 s0 s1 u) : JJ X (AX K sz) (jj_Q X (va_Qi (fun (r : Int32) (w : XS) => Post r w ∧ jj_z r) (jx_B D dA K) (AX K sz)) 0 0 (AX K sz)) 3 (XP D dA (AX K sz) K u) 0 0 14 [(0, .ref x0), (1, .int x1), (2, .int x2)] [.int s0, .ref s1] := by
  unfold xw0_drop_B14 at h
  obtain ⟨k14, h⟩ := h
  refine xp0_7 hX hY k14 dX0_drop_14 q418 17 rfl (fun u14 e14 => ?_)
  have h := h u14 e14
  refine jj_aload_n hX dX0_drop_17 0 rfl 18 rfl ?_
  obtain ⟨k18, h⟩ := h
  refine xg0_7 hX hY k18 dX0_drop_18 q418 21 rfl ?_
  refine jj_if_ne hX dX0_drop_21 62 24 (by decide) rfl (fun c21 => ?_) (fun c21 => ?_)
  · have h := h.1 c21
    refine jj_aload_n hX dX0_drop_62 0 rfl 63 rfl ?_
    refine xg0_7 hX hY k18 dX0_drop_63 q418 66 rfl ?_
    refine jj_if_ne hX dX0_drop_66 73 69 (by decide) rfl (fun c66 => ?_) (fun c66 => ?_)
    · have h := h.1 c66
      refine jj_iconst hX dX0_drop_73 ci_0 74 rfl ?_
      exact jj_retz (post := (fun (r : Int32) (w : XS) => Post r w)) (u := u14) hX dX0_drop_74 (Nat.le_refl 0) (Nat.le_refl 0) jx_hB jj_z0 h
    · have h := h.2 c66
      refine jj_iconst hX dX0_drop_69 ci_1 70 rfl ?_
      refine jj_goto hX dX0_drop_70 74 (by decide) ?_
      exact jj_retz (post := (fun (r : Int32) (w : XS) => Post r w)) (u := u14) hX dX0_drop_74 (Nat.le_refl 0) (Nat.le_refl 0) jx_hB jj_z1 h
  · have h := h.2 c21
    refine jj_aload_n hX dX0_drop_24 0 rfl 25 rfl ?_
    refine xg0_10 hX hY k18 dX0_drop_25 q421 28 rfl ?_
    refine jj_iload_n hX dX0_drop_28 2 rfl 29 rfl ?_
    refine jj_if_eq hX dX0_drop_29 46 32 (by decide) rfl (fun c29 => ?_) (fun c29 => ?_)
    · have h := h.1 c29
      refine jj_aload_n hX dX0_drop_46 0 rfl 47 rfl ?_
      refine xg0_10 hX hY k18 dX0_drop_47 q421 50 rfl ?_
      obtain ⟨b50, g50, h⟩ := h
      refine jj_st (st2 := [.ref b50, va_rf (xr u14 x0 10)]) (by rw [va_rf_some g50]) ?_
      obtain ⟨k50, h⟩ := h
      refine xgn4_1 hX hY k50 dX0_drop_50 nq317 53 rfl ?_
      refine jj_iconst hX dX0_drop_53 ci_1 54 rfl ?_
      refine jj_iload_n hX dX0_drop_54 1 rfl 55 rfl ?_
      refine jj_ishl hX dX0_drop_55 56 rfl ?_
      refine jj_iconst hX dX0_drop_56 ci_m1 57 rfl ?_
      refine jj_ixor hX dX0_drop_57 58 rfl ?_
      refine jj_iand hX dX0_drop_58 59 rfl ?_
      obtain ⟨b59, g59, h⟩ := h
      refine jj_st (st2 := [.int ((xi u14 b50 1) &&& (((1 : Int32) <<< (x1 &&& 31)) ^^^ (-1 : Int32))), .ref b59]) (by rw [va_rf_some g59]) ?_
      obtain ⟨k59, h⟩ := h
      refine xpn4_1 hX hY k59 dX0_drop_59 nq317 62 rfl (fun u59 e59 => ?_)
      have h := h u59 e59
      refine jj_aload_n hX dX0_drop_62 0 rfl 63 rfl ?_
      refine xg0_7 hX hY k18 dX0_drop_63 q418 66 rfl ?_
      refine jj_if_ne hX dX0_drop_66 73 69 (by decide) rfl (fun c66 => ?_) (fun c66 => ?_)
      · have h := h.1 c66
        refine jj_iconst hX dX0_drop_73 ci_0 74 rfl ?_
        exact jj_retz (post := (fun (r : Int32) (w : XS) => Post r w)) (u := u59) hX dX0_drop_74 (Nat.le_refl 0) (Nat.le_refl 0) jx_hB jj_z0 h
      · have h := h.2 c66
        refine jj_iconst hX dX0_drop_69 ci_1 70 rfl ?_
        refine jj_goto hX dX0_drop_70 74 (by decide) ?_
        exact jj_retz (post := (fun (r : Int32) (w : XS) => Post r w)) (u := u59) hX dX0_drop_74 (Nat.le_refl 0) (Nat.le_refl 0) jx_hB jj_z1 h
    · have h := h.2 c29
      refine jj_aload_n hX dX0_drop_32 0 rfl 33 rfl ?_
      refine xg0_10 hX hY k18 dX0_drop_33 q421 36 rfl ?_
      obtain ⟨b36, g36, h⟩ := h
      refine jj_st (st2 := [.ref b36, va_rf (xr u14 x0 10)]) (by rw [va_rf_some g36]) ?_
      obtain ⟨k36, h⟩ := h
      refine xgn4_1 hX hY k36 dX0_drop_36 nq317 39 rfl ?_
      refine jj_iconst hX dX0_drop_39 ci_1 40 rfl ?_
      refine jj_iload_n hX dX0_drop_40 1 rfl 41 rfl ?_
      refine jj_ishl hX dX0_drop_41 42 rfl ?_
      refine jj_ior hX dX0_drop_42 43 rfl ?_
      refine jj_goto hX dX0_drop_43 59 (by decide) ?_
      obtain ⟨b59, g59, h⟩ := h
      refine jj_st (st2 := [.int ((xi u14 b36 1) ||| ((1 : Int32) <<< (x1 &&& 31))), .ref b59]) (by rw [va_rf_some g59]) ?_
      obtain ⟨k59, h⟩ := h
      refine xpn4_1 hX hY k59 dX0_drop_59 nq317 62 rfl (fun u59 e59 => ?_)
      have h := h u59 e59
      refine jj_aload_n hX dX0_drop_62 0 rfl 63 rfl ?_
      refine xg0_7 hX hY k18 dX0_drop_63 q418 66 rfl ?_
      refine jj_if_ne hX dX0_drop_66 73 69 (by decide) rfl (fun c66 => ?_) (fun c66 => ?_)
      · have h := h.1 c66
        refine jj_iconst hX dX0_drop_73 ci_0 74 rfl ?_
        exact jj_retz (post := (fun (r : Int32) (w : XS) => Post r w)) (u := u59) hX dX0_drop_74 (Nat.le_refl 0) (Nat.le_refl 0) jx_hB jj_z0 h
      · have h := h.2 c66
        refine jj_iconst hX dX0_drop_69 ci_1 70 rfl ?_
        refine jj_goto hX dX0_drop_70 74 (by decide) ?_
        exact jj_retz (post := (fun (r : Int32) (w : XS) => Post r w)) (u := u59) hX dX0_drop_74 (Nat.le_refl 0) (Nat.le_refl 0) jx_hB jj_z1 h
set_option maxHeartbeats 4000000 in
set_option maxRecDepth 100000 in
theorem mxw0_drop (l : Launch) (hfl : l.stackTraces = false) (D : va_G) (dA aK aV : Nat → Nat) (x0 : Nat) (x1 : Int32) (x2 : Int32) (K : XK) (u : XS) (Post : Int32 → XS → Prop) (h : xw0_drop x0 x1 x2 K u Post) (sz : Nat) : Met l yX0_drop (ws_ yX0_drop cX0_drop 3 (Option.some Jvm.ClassFile.FieldType.boolean)) (jx_rm 2 46 0 0) (jx_Pc D dA aK aV K u sz [.ref x0, .int x1, .int x2]) (va_Qi (fun (r : Int32) (w : XS) => Post r w ∧ jj_z r) (jx_B D dA K) (AX K sz)) 0 0 (AX K sz) := by
  refine jx_start hfl [.ref x0, .int x1, .int x2] [(0, .ref x0), (1, .int x1), (2, .int x2)] (by decide) (Nat.le_of_ble_eq_true rfl) rfl (fun X hX hY hin => ?_)
  unfold xw0_drop at h
  refine jj_aload_n hX dX0_drop_0 0 rfl 1 rfl ?_
  refine jj_aload_n hX dX0_drop_1 0 rfl 2 rfl ?_
  refine jj_iload_n hX dX0_drop_2 1 rfl 3 rfl ?_
  obtain ⟨k3, h⟩ := h
  refine kxw0_isRule hX hY k3 q1085 (Nat.le_of_ble_eq_true rfl) (Nat.le_of_ble_eq_true rfl) (Nat.zero_le _) (Nat.zero_le _) (Nat.le_of_ble_eq_true rfl) dX0_drop_3 6 rfl h (fun r3 u3 hb3 h => ?_)
  refine jj_if_eq hX dX0_drop_6 13 9 (by decide) rfl (fun c6 => ?_) (fun c6 => ?_)
  · have h := h.1 c6
    refine jj_iconst hX dX0_drop_13 ci_1 14 rfl ?_
    exact txw0_drop_B14 hX hY h
  · have h := h.2 c6
    refine jj_iconst hX dX0_drop_9 ci_0 10 rfl ?_
    refine jj_goto hX dX0_drop_10 14 (by decide) ?_
    exact txw0_drop_B14 hX hY h
theorem hd_xw0_drop : yX0_drop.cls ≠ "java/lang/invoke/MethodHandle" ∧ yX0_drop.cls ≠ "java/lang/invoke/VarHandle" ∧ (parseMethodDescriptor yX0_drop.desc).map (fun d => d.parameters.length) = some 2 := by decide +kernel
theorem kxw0_drop {X : JC} {A : Nat → Prop} {Q : State → Prop} {nL k n pc : Nat} {lv : List (Nat × Value)} {st : List Value} {own : String} {cc : ByteArray} {ret : Option FieldType} {F LL mc ms ix : Nat} {D : va_G} {dA aK aV : Nat → Nat} {K : XK} {u : XS} {x0 : Nat} {x1 : Int32} {x2 : Int32} {Post : Int32 → XS → Prop} (hX : JX X own cc nL ret F LL mc ms) (hY : JY X D dA aK aV A) (h1a : K x0 = (1, 0)) (hlk : (Cond.methodLink own ix yX0_drop) ∈ lw_all) (hF : 2 + 1 ≤ F) (hL : 8 + (3 + 11) + 46 ≤ LL) (hk : k ≤ mc) (hk2 : n ≤ ms) (hw : (st.map fun v => v.category).sum ≤ 8) (d : decode cc pc = .ok (.invokevirtual ix, 3)) (q : Nat) (hq : pc + 3 = q) (h : xw0_drop x0 x1 x2 K u  Post) (kk : ∀ (r : Int32) (u2 : XS), jj_z r → Post r u2 → JJ X A Q nL (XP D dA A K u2) k n q lv (.int r :: st)) : JJ X A Q nL (XP D dA A K u) k n pc lv (.int x2 :: .int x1 :: .ref x0 :: st) :=
  jx_callVz (na := 2) (As := [.int x1, .int x2]) hX hY jf0 h1a (fun sz => mxw0_drop (jj_l X) hY.2.2.2.2 D dA aK aV x0 x1 x2 K u  Post h sz) hlk q1104 q1105 q120 q1106 ⟨rfl, hd_xw0_drop⟩ rfl rfl hw hF hL hk hk2 d q hq kk
theorem knxw0_drop {X : JC} {A : Nat → Prop} {Q : State → Prop} {nL k n pc : Nat} {lv : List (Nat × Value)} {st : List Value} {own : String} {cc : ByteArray} {ret : Option FieldType} {F LL mc ms ix : Nat} {D : va_G} {dA aK aV : Nat → Nat} {K : XK} {u : XS} {x0 : Nat} {x1 : Int32} {x2 : Int32} {host : String} {Post : Int32 → XS → Prop} (hX : JX X own cc nL ret F LL mc ms) (hY : JY X D dA aK aV A) (h1a : K x0 = (1, 0)) (hlk : (Cond.methodLinkNest own ix yX0_drop host) ∈ jx_nest) (hF : 2 + 1 ≤ F) (hL : 8 + (3 + 11) + 46 ≤ LL) (hk : k ≤ mc) (hk2 : n ≤ ms) (hw : (st.map fun v => v.category).sum ≤ 8) (d : decode cc pc = .ok (.invokevirtual ix, 3)) (q : Nat) (hq : pc + 3 = q) (h : xw0_drop x0 x1 x2 K u  Post) (kk : ∀ (r : Int32) (u2 : XS), jj_z r → Post r u2 → JJ X A Q nL (XP D dA A K u2) k n q lv (.int r :: st)) : JJ X A Q nL (XP D dA A K u) k n pc lv (.int x2 :: .int x1 :: .ref x0 :: st) :=
  jx_callNz (na := 2) (As := [.int x1, .int x2]) hX hY jf0 h1a (fun sz => mxw0_drop (jj_l X) hY.2.2.2.2 D dA aK aV x0 x1 x2 K u  Post h sz) hlk q1104 q1105 q120 q1106 hd_xw0_drop rfl rfl hw hF hL hk hk2 d q hq kk
/-- RaisedPress.isSet()Z -/
def xw0_isSet (x0 : Nat) (K : XK) (u : XS) (Post : Int32 → XS → Prop) : Prop :=
  K x0 = (1, 0) ∧
  ∃ b4, (xr u x0 10) = some b4 ∧
  K b4 = (1, 4) ∧
  ((xr u b4 2) = none →
    Post (0 : Int32) u) ∧
  (¬ (xr u b4 2) = none →
    Post (1 : Int32) u)
set_option maxHeartbeats 4000000 in
set_option maxRecDepth 100000 in
theorem mxw0_isSet (l : Launch) (hfl : l.stackTraces = false) (D : va_G) (dA aK aV : Nat → Nat) (x0 : Nat) (K : XK) (u : XS) (Post : Int32 → XS → Prop) (h : xw0_isSet x0 K u Post) (sz : Nat) : Met l yX0_isSet (ws_ yX0_isSet cX0_isSet 1 (Option.some Jvm.ClassFile.FieldType.boolean)) (jx_rm 0 0 0 0) (jx_Pc D dA aK aV K u sz [.ref x0]) (va_Qi (fun (r : Int32) (w : XS) => Post r w ∧ jj_z r) (jx_B D dA K) (AX K sz)) 0 0 (AX K sz) := by
  refine jx_start hfl [.ref x0] [(0, .ref x0)] (by decide) (Nat.le_of_ble_eq_true rfl) rfl (fun X hX hY hin => ?_)
  unfold xw0_isSet at h
  refine jj_aload_n hX dX0_isSet_0 0 rfl 1 rfl ?_
  obtain ⟨k1, h⟩ := h
  refine xg0_10 hX hY k1 dX0_isSet_1 q421 4 rfl ?_
  obtain ⟨b4, g4, h⟩ := h
  refine jj_st (st2 := [.ref b4]) (by rw [va_rf_some g4]) ?_
  obtain ⟨k4, h⟩ := h
  refine xgn4_2 hX hY k4 dX0_isSet_4 nq319 7 rfl ?_
  refine jj_ifnull (r := (xr u b4 2)) hX dX0_isSet_7 14 10 (by decide) rfl (fun c7 => ?_) (fun c7 => ?_)
  · have h := h.1 c7
    refine jj_iconst hX dX0_isSet_14 ci_0 15 rfl ?_
    exact jj_retz (post := (fun (r : Int32) (w : XS) => Post r w)) (u := u) hX dX0_isSet_15 (Nat.le_refl 0) (Nat.le_refl 0) jx_hB jj_z0 h
  · have h := h.2 c7
    refine jj_iconst hX dX0_isSet_10 ci_1 11 rfl ?_
    refine jj_goto hX dX0_isSet_11 15 (by decide) ?_
    exact jj_retz (post := (fun (r : Int32) (w : XS) => Post r w)) (u := u) hX dX0_isSet_15 (Nat.le_refl 0) (Nat.le_refl 0) jx_hB jj_z1 h
theorem hd_xw0_isSet : yX0_isSet.cls ≠ "java/lang/invoke/MethodHandle" ∧ yX0_isSet.cls ≠ "java/lang/invoke/VarHandle" ∧ (parseMethodDescriptor yX0_isSet.desc).map (fun d => d.parameters.length) = some 0 := by decide +kernel
theorem kxw0_isSet {X : JC} {A : Nat → Prop} {Q : State → Prop} {nL k n pc : Nat} {lv : List (Nat × Value)} {st : List Value} {own : String} {cc : ByteArray} {ret : Option FieldType} {F LL mc ms ix : Nat} {D : va_G} {dA aK aV : Nat → Nat} {K : XK} {u : XS} {x0 : Nat} {Post : Int32 → XS → Prop} (hX : JX X own cc nL ret F LL mc ms) (hY : JY X D dA aK aV A) (h1a : K x0 = (1, 0)) (hlk : (Cond.methodLink own ix yX0_isSet) ∈ lw_all) (hF : 0 + 1 ≤ F) (hL : 8 + (1 + 11) + 0 ≤ LL) (hk : k ≤ mc) (hk2 : n ≤ ms) (hw : (st.map fun v => v.category).sum ≤ 8) (d : decode cc pc = .ok (.invokevirtual ix, 3)) (q : Nat) (hq : pc + 3 = q) (h : xw0_isSet x0 K u  Post) (kk : ∀ (r : Int32) (u2 : XS), jj_z r → Post r u2 → JJ X A Q nL (XP D dA A K u2) k n q lv (.int r :: st)) : JJ X A Q nL (XP D dA A K u) k n pc lv (.ref x0 :: st) :=
  jx_callVz (na := 0) (As := []) hX hY jf0 h1a (fun sz => mxw0_isSet (jj_l X) hY.2.2.2.2 D dA aK aV x0 K u  Post h sz) hlk q1117 qs36 q120 q1118 ⟨rfl, hd_xw0_isSet⟩ rfl rfl hw hF hL hk hk2 d q hq kk
theorem knxw0_isSet {X : JC} {A : Nat → Prop} {Q : State → Prop} {nL k n pc : Nat} {lv : List (Nat × Value)} {st : List Value} {own : String} {cc : ByteArray} {ret : Option FieldType} {F LL mc ms ix : Nat} {D : va_G} {dA aK aV : Nat → Nat} {K : XK} {u : XS} {x0 : Nat} {host : String} {Post : Int32 → XS → Prop} (hX : JX X own cc nL ret F LL mc ms) (hY : JY X D dA aK aV A) (h1a : K x0 = (1, 0)) (hlk : (Cond.methodLinkNest own ix yX0_isSet host) ∈ jx_nest) (hF : 0 + 1 ≤ F) (hL : 8 + (1 + 11) + 0 ≤ LL) (hk : k ≤ mc) (hk2 : n ≤ ms) (hw : (st.map fun v => v.category).sum ≤ 8) (d : decode cc pc = .ok (.invokevirtual ix, 3)) (q : Nat) (hq : pc + 3 = q) (h : xw0_isSet x0 K u  Post) (kk : ∀ (r : Int32) (u2 : XS), jj_z r → Post r u2 → JJ X A Q nL (XP D dA A K u2) k n q lv (.int r :: st)) : JJ X A Q nL (XP D dA A K u) k n pc lv (.ref x0 :: st) :=
  jx_callNz (na := 0) (As := []) hX hY jf0 h1a (fun sz => mxw0_isSet (jj_l X) hY.2.2.2.2 D dA aK aV x0 K u  Post h sz) hlk q1117 qs36 q120 q1118 hd_xw0_isSet rfl rfl hw hF hL hk hk2 d q hq kk
/-- RaisedPress.whyNotSet()I -/
def xw0_whyNotSet (x0 : Nat) (K : XK) (u : XS) (Post : Int32 → XS → Prop) : Prop :=
  K x0 = (1, 0) ∧
  xw0_isSet x0 K u (fun r1 u1 =>
    (r1 = 0 →
      Post (6 : Int32) u1) ∧
    (¬ r1 = 0 →
      Post (0 : Int32) u1))
set_option maxHeartbeats 4000000 in
set_option maxRecDepth 100000 in
theorem mxw0_whyNotSet (l : Launch) (hfl : l.stackTraces = false) (D : va_G) (dA aK aV : Nat → Nat) (x0 : Nat) (K : XK) (u : XS) (Post : Int32 → XS → Prop) (h : xw0_whyNotSet x0 K u Post) (sz : Nat) : Met l yX0_whyNotSet (ws_ yX0_whyNotSet cX0_whyNotSet 1 (Option.some Jvm.ClassFile.FieldType.int)) (jx_rm 1 20 0 0) (jx_Pc D dA aK aV K u sz [.ref x0]) (va_Qi (fun (r : Int32) (w : XS) => Post r w) (jx_B D dA K) (AX K sz)) 0 0 (AX K sz) := by
  refine jx_start hfl [.ref x0] [(0, .ref x0)] (by decide) (Nat.le_of_ble_eq_true rfl) rfl (fun X hX hY hin => ?_)
  unfold xw0_whyNotSet at h
  refine jj_aload_n hX dX0_whyNotSet_0 0 rfl 1 rfl ?_
  obtain ⟨k1, h⟩ := h
  refine kxw0_isSet hX hY k1 q1115 (Nat.le_of_ble_eq_true rfl) (Nat.le_of_ble_eq_true rfl) (Nat.zero_le _) (Nat.zero_le _) (Nat.le_of_ble_eq_true rfl) dX0_whyNotSet_1 4 rfl h (fun r1 u1 hb1 h => ?_)
  refine jj_if_eq hX dX0_whyNotSet_4 11 7 (by decide) rfl (fun c4 => ?_) (fun c4 => ?_)
  · have h := h.1 c4
    refine jj_bipush hX dX0_whyNotSet_11 cb_6 13 rfl ?_
    exact jj_reti (post := (fun (r : Int32) (w : XS) => Post r w)) (u := u1) hX dX0_whyNotSet_13 (Nat.le_refl 0) (Nat.le_refl 0) jx_hB h
  · have h := h.2 c4
    refine jj_iconst hX dX0_whyNotSet_7 ci_0 8 rfl ?_
    refine jj_goto hX dX0_whyNotSet_8 13 (by decide) ?_
    exact jj_reti (post := (fun (r : Int32) (w : XS) => Post r w)) (u := u1) hX dX0_whyNotSet_13 (Nat.le_refl 0) (Nat.le_refl 0) jx_hB h
theorem hd_xw0_whyNotSet : yX0_whyNotSet.cls ≠ "java/lang/invoke/MethodHandle" ∧ yX0_whyNotSet.cls ≠ "java/lang/invoke/VarHandle" ∧ (parseMethodDescriptor yX0_whyNotSet.desc).map (fun d => d.parameters.length) = some 0 := by decide +kernel
theorem kxw0_whyNotSet {X : JC} {A : Nat → Prop} {Q : State → Prop} {nL k n pc : Nat} {lv : List (Nat × Value)} {st : List Value} {own : String} {cc : ByteArray} {ret : Option FieldType} {F LL mc ms ix : Nat} {D : va_G} {dA aK aV : Nat → Nat} {K : XK} {u : XS} {x0 : Nat} {Post : Int32 → XS → Prop} (hX : JX X own cc nL ret F LL mc ms) (hY : JY X D dA aK aV A) (h1a : K x0 = (1, 0)) (hlk : (Cond.methodLink own ix yX0_whyNotSet) ∈ lw_all) (hF : 1 + 1 ≤ F) (hL : 8 + (1 + 11) + 20 ≤ LL) (hk : k ≤ mc) (hk2 : n ≤ ms) (hw : (st.map fun v => v.category).sum ≤ 8) (d : decode cc pc = .ok (.invokevirtual ix, 3)) (q : Nat) (hq : pc + 3 = q) (h : xw0_whyNotSet x0 K u  Post) (kk : ∀ (r : Int32) (u2 : XS), Post r u2 → JJ X A Q nL (XP D dA A K u2) k n q lv (.int r :: st)) : JJ X A Q nL (XP D dA A K u) k n pc lv (.ref x0 :: st) :=
  jx_callVi (na := 0) (As := []) hX hY jf0 h1a (fun sz => mxw0_whyNotSet (jj_l X) hY.2.2.2.2 D dA aK aV x0 K u  Post h sz) hlk q1113 qs35 q120 q1114 ⟨rfl, hd_xw0_whyNotSet⟩ rfl rfl hw hF hL hk hk2 d q hq kk
theorem knxw0_whyNotSet {X : JC} {A : Nat → Prop} {Q : State → Prop} {nL k n pc : Nat} {lv : List (Nat × Value)} {st : List Value} {own : String} {cc : ByteArray} {ret : Option FieldType} {F LL mc ms ix : Nat} {D : va_G} {dA aK aV : Nat → Nat} {K : XK} {u : XS} {x0 : Nat} {host : String} {Post : Int32 → XS → Prop} (hX : JX X own cc nL ret F LL mc ms) (hY : JY X D dA aK aV A) (h1a : K x0 = (1, 0)) (hlk : (Cond.methodLinkNest own ix yX0_whyNotSet host) ∈ jx_nest) (hF : 1 + 1 ≤ F) (hL : 8 + (1 + 11) + 20 ≤ LL) (hk : k ≤ mc) (hk2 : n ≤ ms) (hw : (st.map fun v => v.category).sum ≤ 8) (d : decode cc pc = .ok (.invokevirtual ix, 3)) (q : Nat) (hq : pc + 3 = q) (h : xw0_whyNotSet x0 K u  Post) (kk : ∀ (r : Int32) (u2 : XS), Post r u2 → JJ X A Q nL (XP D dA A K u2) k n q lv (.int r :: st)) : JJ X A Q nL (XP D dA A K u) k n pc lv (.ref x0 :: st) :=
  jx_callNi (na := 0) (As := []) hX hY jf0 h1a (fun sz => mxw0_whyNotSet (jj_l X) hY.2.2.2.2 D dA aK aV x0 K u  Post h sz) hlk q1113 qs35 q120 q1114 hd_xw0_whyNotSet rfl rfl hw hF hL hk hk2 d q hq kk
/-- RaisedPress.setsWithout(I)I -/
def xw0_setsWithout (x0 : Nat) (x1 : Int32) (K : XK) (u : XS) (mc ms : Nat) (Post : Int32 → XK → XS → Prop) : Prop :=
  K x0 = (1, 0) ∧
  ∃ m1 w1, m1 ≤ mc ∧ w1 ≤ ms ∧ xw0_setter x0 K u m1 w1 (fun r1 K1 u1 =>
    ∃ b8, (xr u1 x0 10) = some b8 ∧
    K1 b8 = (1, 4) ∧
    ∃ b11, (xr u1 b8 2) = some b11 ∧
    K1 b11 = (1, 15) ∧
    ∃ b18, (xr u1 x0 10) = some b18 ∧
    K1 b18 = (1, 4) ∧
    ∃ b21, (xr u1 b18 2) = some b21 ∧
    K1 b21 = (1, 15) ∧
    ∃ b24, (xr u1 b21 0) = some b24 ∧
    ∃ n24, K1 b24 = (3, n24) ∧
    ∃ b26, (xr u1 b11 0) = some b26 ∧
    K1 r1 = (1, 6) ∧
    ∃ m26 w26, (m1 + m26) ≤ mc ∧ (w1 + w26) ≤ ms ∧ xw6_all r1 b26 (nI n24) x1 K1 u1 m26 w26 (fun K26 u26 =>
      ∃ m30 w30, ((m1 + m26) + m30) ≤ mc ∧ ((w1 + w26) + w30) ≤ ms ∧ xw0_setter x0 K26 u26 m30 w30 (fun r30 K30 u30 =>
        K30 r30 = (1, 6) ∧
        Post (xi u30 r30 4) K30 u30)) (fun q26 K26 u26 =>
      Post (-1 : Int32) K26 u26))
set_option maxHeartbeats 4000000 in
set_option maxRecDepth 100000 in
theorem mxw0_setsWithout (l : Launch) (hfl : l.stackTraces = false) (D : va_G) (dA aK aV : Nat → Nat) (x0 : Nat) (x1 : Int32) (K : XK) (u : XS) (mc ms : Nat) (Post : Int32 → XK → XS → Prop) (h : xw0_setsWithout x0 x1 K u mc ms Post) (sz : Nat) : Met l yX0_setsWithout (wsW_ yX0_setsWithout cX0_setsWithout 3 (Option.some Jvm.ClassFile.FieldType.int) [(0, 36, 37, 31)]) (jx_rm 6 141 mc ms) (jx_Pc D dA aK aV K u sz [.ref x0, .int x1]) (va_Qi (fun (r : Int32) (w : XK × XS) => Post r w.1 w.2) (jx_BA D dA K sz) (AX K sz)) mc ms (AX K sz) := by
  refine jx_startW hfl [.ref x0, .int x1] [(0, .ref x0), (1, .int x1)] (by decide) (Nat.le_of_ble_eq_true rfl) rfl (fun X hX hY hE => ?_)
  unfold xw0_setsWithout at h
  refine jj_aload_n hX dX0_setsWithout_0 0 rfl 1 rfl ?_
  obtain ⟨k1, h⟩ := h
  obtain ⟨m1, w1, hc1, hs1, h⟩ := h
  refine kxw0_setter hX hY k1 q875 (Nat.le_of_ble_eq_true rfl) (Nat.le_of_ble_eq_true rfl) (by simpa using hc1) (by simpa using hs1) (Nat.le_of_ble_eq_true rfl) dX0_setsWithout_1 4 rfl h (fun r1 K1 u1 hle1 h => ?_)
  have k1_1 := hle1.at k1 (by simp)
  have hl1 := XLe.rf.tr hle1
  refine jj_cs (k2 := m1) (n2 := w1) (by simp) (by simp) ?_
  refine jj_aload_n hX dX0_setsWithout_4 0 rfl 5 rfl ?_
  refine xg0_10 hX hY k1_1 dX0_setsWithout_5 q421 8 rfl ?_
  obtain ⟨b8, g8, h⟩ := h
  refine jj_st (st2 := [.ref b8, .ref r1]) (by rw [va_rf_some g8]) ?_
  obtain ⟨k8, h⟩ := h
  refine xgn4_2 hX hY k8 dX0_setsWithout_8 nq319 11 rfl ?_
  obtain ⟨b11, g11, h⟩ := h
  refine jj_st (st2 := [.ref b11, .ref r1]) (by rw [va_rf_some g11]) ?_
  obtain ⟨k11, h⟩ := h
  refine xgn15_0 hX hY k11 dX0_setsWithout_11 nq1000 14 rfl ?_
  refine jj_aload_n hX dX0_setsWithout_14 0 rfl 15 rfl ?_
  refine xg0_10 hX hY k1_1 dX0_setsWithout_15 q421 18 rfl ?_
  obtain ⟨b18, g18, h⟩ := h
  refine jj_st (st2 := [.ref b18, va_rf (xr u1 b11 0), .ref r1]) (by rw [va_rf_some g18]) ?_
  obtain ⟨k18, h⟩ := h
  refine xgn4_2 hX hY k18 dX0_setsWithout_18 nq319 21 rfl ?_
  obtain ⟨b21, g21, h⟩ := h
  refine jj_st (st2 := [.ref b21, va_rf (xr u1 b11 0), .ref r1]) (by rw [va_rf_some g21]) ?_
  obtain ⟨k21, h⟩ := h
  refine xgn15_0 hX hY k21 dX0_setsWithout_21 nq1000 24 rfl ?_
  obtain ⟨b24, g24, h⟩ := h
  refine jj_st (st2 := [.ref b24, va_rf (xr u1 b11 0), .ref r1]) (by rw [va_rf_some g24]) ?_
  obtain ⟨n24, k24, h⟩ := h
  refine jx_alen hX hY.1 k24 dX0_setsWithout_24 25 rfl ?_
  refine jj_iload_n hX dX0_setsWithout_25 1 rfl 26 rfl ?_
  obtain ⟨b26, g26, h⟩ := h
  refine jj_st (st2 := [.int x1, .int (nI n24), .ref b26, .ref r1]) (by rw [va_rf_some g26]) ?_
  obtain ⟨k26, h⟩ := h
  obtain ⟨m26, w26, hc26, hs26, h⟩ := h
  refine kxw6_all hX hY k26 q883 (Nat.le_of_ble_eq_true rfl) (Nat.le_of_ble_eq_true rfl) hc26 hs26 (Nat.le_of_ble_eq_true rfl) dX0_setsWithout_26 29 rfl h (fun q26 K26 u26 hle26 h => jt_cs (k2 := (m1 + m26)) (n2 := (w1 + w26)) (by simp) (by simp) ?_) (fun K26 u26 hle26 h => jj_cs (k2 := (m1 + m26)) (n2 := (w1 + w26)) (by simp) (by simp) ?_)
  · have k26_1 := hle26.at k1_1 (by simp)
    have k26_2 := hle26.at k8 (by simp)
    have k26_3 := hle26.at k11 (by simp)
    have k26_4 := hle26.at k18 (by simp)
    have k26_5 := hle26.at k21 (by simp)
    have k26_6 := hle26.at k24 (by simp)
    have k26_7 := hle26.at k26 (by simp)
    have hl26 := hl1.tr hle26
    refine jt_catch0 (nm := "RaisedPress$Bad") hX hY.2.1 hE rfl (by decide) q169 nq171 ?_
    refine jj_astore_n (lv2 := [(2, .ref q26)]) hX dX0_setsWithout_37 (Nat.le_of_ble_eq_true rfl) [0] rfl 38 rfl ?_
    refine jj_iconst hX dX0_setsWithout_38 ci_m1 39 rfl ?_
    exact jj_reti (post := (fun (r : Int32) (w : XK × XS) => Post r w.1 w.2)) (u := (K26, u26)) hX dX0_setsWithout_39 hc26 hs26 (jx_hBA hl26) h
  · have k26_1 := hle26.at k1_1 (by simp)
    have k26_2 := hle26.at k8 (by simp)
    have k26_3 := hle26.at k11 (by simp)
    have k26_4 := hle26.at k18 (by simp)
    have k26_5 := hle26.at k21 (by simp)
    have k26_6 := hle26.at k24 (by simp)
    have k26_7 := hle26.at k26 (by simp)
    have hl26 := hl1.tr hle26
    refine jj_aload_n hX dX0_setsWithout_29 0 rfl 30 rfl ?_
    obtain ⟨m30, w30, hc30, hs30, h⟩ := h
    refine kxw0_setter hX hY k26_1 q875 (Nat.le_of_ble_eq_true rfl) (Nat.le_of_ble_eq_true rfl) hc30 hs30 (Nat.le_of_ble_eq_true rfl) dX0_setsWithout_30 33 rfl h (fun r30 K30 u30 hle30 h => ?_)
    have k30 := hle30.at k26_1 (by simp)
    have k30_1 := hle30.at k26_2 (by simp)
    have k30_2 := hle30.at k26_3 (by simp)
    have k30_3 := hle30.at k26_4 (by simp)
    have k30_4 := hle30.at k26_5 (by simp)
    have k30_5 := hle30.at k26_6 (by simp)
    have k30_6 := hle30.at k26_7 (by simp)
    have hl30 := hl26.tr hle30
    refine jj_cs (k2 := ((m1 + m26) + m30)) (n2 := ((w1 + w26) + w30)) (by simp) (by simp) ?_
    obtain ⟨k33, h⟩ := h
    refine xgn6_4 hX hY k33 dX0_setsWithout_33 nq343 36 rfl ?_
    exact jj_reti (post := (fun (r : Int32) (w : XK × XS) => Post r w.1 w.2)) (u := (K30, u30)) hX dX0_setsWithout_36 hc30 hs30 (jx_hBA hl30) h
theorem hd_xw0_setsWithout : yX0_setsWithout.cls ≠ "java/lang/invoke/MethodHandle" ∧ yX0_setsWithout.cls ≠ "java/lang/invoke/VarHandle" ∧ (parseMethodDescriptor yX0_setsWithout.desc).map (fun d => d.parameters.length) = some 1 := by decide +kernel
theorem kxw0_setsWithout {X : JC} {A : Nat → Prop} {Q : State → Prop} {nL k n pc : Nat} {lv : List (Nat × Value)} {st : List Value} {own : String} {cc : ByteArray} {ret : Option FieldType} {F LL mc ms ix mc2 ms2 : Nat} {D : va_G} {dA aK aV : Nat → Nat} {K : XK} {u : XS} {x0 : Nat} {x1 : Int32} {Post : Int32 → XK → XS → Prop} (hX : JX X own cc nL ret F LL mc ms) (hY : JY X D dA aK aV A) (h1a : K x0 = (1, 0)) (hlk : (Cond.methodLink own ix yX0_setsWithout) ∈ lw_all) (hF : 6 + 1 ≤ F) (hL : 8 + (3 + 11) + 141 ≤ LL) (hk : k + mc2 ≤ mc) (hk2 : n + ms2 ≤ ms) (hw : (st.map fun v => v.category).sum ≤ 8) (d : decode cc pc = .ok (.invokevirtual ix, 3)) (q : Nat) (hq : pc + 3 = q) (h : xw0_setsWithout x0 x1 K u mc2 ms2 Post) (kk : ∀ (r : Int32) (K2 : XK) (u2 : XS), XLe K K2 → Post r K2 u2 → JJ X A Q nL (XP D dA A K2 u2) (k + mc2) (n + ms2) q lv (.int r :: st)) : JJ X A Q nL (XP D dA A K u) k n pc lv (.int x1 :: .ref x0 :: st) :=
  jx_callWVi (na := 1) (As := [.int x1]) hX hY jf0 h1a (fun sz => mxw0_setsWithout (jj_l X) hY.2.2.2.2 D dA aK aV x0 x1 K u mc2 ms2 Post h sz) hlk q1121 qs37 q120 q1122 ⟨rfl, hd_xw0_setsWithout⟩ rfl rfl hw hF hL hk hk2 d q hq kk
