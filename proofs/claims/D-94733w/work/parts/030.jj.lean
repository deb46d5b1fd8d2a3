/-! THE JUDGEMENT JJ: the machine at pc with locals lv and stack st, over every heap of the picture P. Its rows are those of the kit, with the heap put away. -/
set_option linter.unusedVariables false
abbrev JC : Type := Program × Launch × Env × Room × State × MethodId × Array Value × List Frame × Method × Code
abbrev jj_l (X : JC) : Launch := X.2.1
abbrev jj_R (X : JC) : Room := X.2.2.2.1
abbrev jj_s (X : JC) : State := X.2.2.2.2.1
abbrev jj_m (X : JC) : MethodId := X.2.2.2.2.2.1
abbrev jj_a (X : JC) : Array Value := X.2.2.2.2.2.2.1
abbrev jj_b (X : JC) : List Frame := X.2.2.2.2.2.2.2.1
abbrev jj_me (X : JC) : Method := X.2.2.2.2.2.2.2.2.1
abbrev jj_c (X : JC) : Code := X.2.2.2.2.2.2.2.2.2
abbrev jj_W (X : JC) (H : Heap) (locs : List Loc) (k n : Nat) (Q : State → Prop) (g : JFrame) : Prop := W X.1 X.2.1 X.2.2.1 X.2.2.2.1 X.2.2.2.2.1 X.2.2.2.2.2.1 X.2.2.2.2.2.2.1 X.2.2.2.2.2.2.2.1 X.2.2.2.2.2.2.2.2.1 X.2.2.2.2.2.2.2.2.2 H locs k n Q g
/-- what holds all through a method's run -/
def JX (X : JC) (own : String) (cc : ByteArray) (nL : Nat) (ret : Option FieldType) (F LL mc ms : Nat) : Prop :=
  X.1.tables.exec = Jvm.exec ∧ (jj_c X).code = cc ∧ (jj_c X).maxLocals = nL ∧ (jj_s X).vm.findClass own = some (jj_m X).cls ∧ (∀ w ∈ lw_all, w.before (jj_a X) (jj_s X) = true) ∧ (jj_me X).locks = false ∧ (jj_me X).sig.returnType = ret ∧ (jj_R X).frames = F ∧ (jj_R X).locals = LL ∧ (jj_R X).cells = mc ∧ (jj_R X).slots = ms
def JJ (X : JC) (A : Nat → Prop) (Q : State → Prop) (nL : Nat) (P : Heap → Prop) (k n : Nat) (pc : Nat) (lv : List (Nat × Value)) (st : List Value) : Prop :=
  ∀ (H : Heap) (locs : List Loc) (ls : Array Slot), P H → va_S A (jj_s X).heap H locs → lv_has ls nL lv → jj_W X H locs k n Q (F0 (jj_m X) pc ls st)
section JJ1
variable {X : JC} {A : Nat → Prop} {Q : State → Prop} {nL : Nat} {P : Heap → Prop} {k n pc : Nat} {lv : List (Nat × Value)} {st : List Value} {own : String} {cc : ByteArray} {ret : Option FieldType} {F LL mc ms : Nat}
/-- fewer locals are known, in any order: by their places -/
theorem jj_sub {lv2 : List (Nat × Value)} (ks : List Nat) (hl : lv_pick lv ks = lv2) (h : JJ X A Q nL P k n pc lv2 st) : JJ X A Q nL P k n pc lv st := fun H locs ls hP hS hh => h H locs ls hP hS (lv_sub hh ks hl)
/-- another picture -/
theorem jj_pic {P2 : Heap → Prop} (hp : ∀ H, P H → P2 H) (h : JJ X A Q nL P2 k n pc lv st) : JJ X A Q nL P k n pc lv st := fun H locs ls hP hS hh => h H locs ls (hp H hP) hS hh
theorem jj_wid {k2 n2 : Nat} (h1 : k ≤ k2) (h2 : n ≤ n2) (h : JJ X A Q nL P k2 n2 pc lv st) : JJ X A Q nL P k n pc lv st := fun H locs ls hP hS hh => W.widen h1 h2 (h H locs ls hP hS hh)
/-- the value on top gets a name -/
theorem jj_topi {x : Int32} (h : ∀ y : Int32, y = x → JJ X A Q nL P k n pc lv (.int y :: st)) : JJ X A Q nL P k n pc lv (.int x :: st) := h x rfl
theorem jj_topl {x : Int64} (h : ∀ y : Int64, y = x → JJ X A Q nL P k n pc lv (.long y :: st)) : JJ X A Q nL P k n pc lv (.long x :: st) := h x rfl
theorem jj_at {i : Nat} {ls : Array Slot} (hh : lv_has ls nL lv) (j : Nat) {v : Value} (hk : lv[j]? = some (i, v)) : ls[i]? = some (.val v) := lv_at hh j hk
theorem jj_iconst {z : Int} {v : Int32} (hX : JX X own cc nL ret F LL mc ms) (d : decode cc pc = .ok (.iconst z, 1)) (hv : Int32.ofInt z = v) (q : Nat) (hq : pc + 1 = q) (h : JJ X A Q nL P k n q lv (.int v :: st)) : JJ X A Q nL P k n pc lv (st) := by
  subst hq
  exact fun H locs ls hP hS hh => lv_iconst hX.1 hX.2.1 d hv (h H locs ls hP hS hh)
theorem jj_bipush {z : Int} {v : Int32} (hX : JX X own cc nL ret F LL mc ms) (d : decode cc pc = .ok (.bipush z, 2)) (hv : (Int8.ofInt z).toInt32 = v) (q : Nat) (hq : pc + 2 = q) (h : JJ X A Q nL P k n q lv (.int v :: st)) : JJ X A Q nL P k n pc lv (st) := by
  subst hq
  exact fun H locs ls hP hS hh => lv_bipush hX.1 hX.2.1 d hv (h H locs ls hP hS hh)
theorem jj_sipush {z : Int} {v : Int32} (hX : JX X own cc nL ret F LL mc ms) (d : decode cc pc = .ok (.sipush z, 3)) (hv : (Int16.ofInt z).toInt32 = v) (q : Nat) (hq : pc + 3 = q) (h : JJ X A Q nL P k n q lv (.int v :: st)) : JJ X A Q nL P k n pc lv (st) := by
  subst hq
  exact fun H locs ls hP hS hh => lv_sipush hX.1 hX.2.1 d hv (h H locs ls hP hS hh)
theorem jj_lconst {z : Fin 2} {v : Int64} (hX : JX X own cc nL ret F LL mc ms) (d : decode cc pc = .ok (.lconst z, 1)) (hv : Int64.ofNat (z : Nat) = v) (q : Nat) (hq : pc + 1 = q) (h : JJ X A Q nL P k n q lv (.long v :: st)) : JJ X A Q nL P k n pc lv (st) := by
  subst hq
  exact fun H locs ls hP hS hh => lv_lconst hX.1 hX.2.1 d hv (h H locs ls hP hS hh)
theorem jj_ldcw {ix : Nat} {v : Int32} (hX : JX X own cc nL ret F LL mc ms) (d : decode cc pc = .ok (.ldc_w ix, 3)) (hc : (Jvm.Cond.constant own ix v) ∈ lw_all) (q : Nat) (hq : pc + 3 = q) (h : JJ X A Q nL P k n q lv (.int v :: st)) : JJ X A Q nL P k n pc lv (st) := by
  subst hq
  exact fun H locs ls hP hS hh => lv_ldcw hX.1 hX.2.1 hX.2.2.2.1 (hX.2.2.2.2.1 _ hc) d (h H locs ls hP hS hh)
theorem jj_ldc {ix : Nat} {v : Int32} (hX : JX X own cc nL ret F LL mc ms) (d : decode cc pc = .ok (.ldc ix, 2)) (hc : (Jvm.Cond.constant own ix v) ∈ lw_all) (q : Nat) (hq : pc + 2 = q) (h : JJ X A Q nL P k n q lv (.int v :: st)) : JJ X A Q nL P k n pc lv (st) := by
  subst hq
  exact fun H locs ls hP hS hh => lv_ldc hX.1 hX.2.1 hX.2.2.2.1 (hX.2.2.2.2.1 _ hc) d (h H locs ls hP hS hh)
theorem jj_ldc2 {ix : Nat} {v : Int64} (hX : JX X own cc nL ret F LL mc ms) (d : decode cc pc = .ok (.ldc2_w ix, 3)) (hc : (Jvm.Cond.constantLong own ix v) ∈ lw_all) (q : Nat) (hq : pc + 3 = q) (h : JJ X A Q nL P k n q lv (.long v :: st)) : JJ X A Q nL P k n pc lv (st) := by
  subst hq
  exact fun H locs ls hP hS hh => lv_ldc2 hX.1 hX.2.1 hX.2.2.2.1 (hX.2.2.2.2.1 _ hc) d (h H locs ls hP hS hh)
theorem jj_iload_n {kf : Fin 4} {x : Int32} (hX : JX X own cc nL ret F LL mc ms) (d : decode cc pc = .ok (.iload_n kf, 1)) (j : Nat) (hk : lv[j]? = some ((kf : Nat), .int x)) (q : Nat) (hq : pc + 1 = q) (h : JJ X A Q nL P k n q lv (.int x :: st)) : JJ X A Q nL P k n pc lv (st) := by
  subst hq
  exact fun H locs ls hP hS hh => lv_iload_n hX.1 hX.2.1 d rfl (lv_at hh j hk) (h H locs ls hP hS hh)
theorem jj_iload {i : Nat} {x : Int32} (hX : JX X own cc nL ret F LL mc ms) (d : decode cc pc = .ok (.iload i, 2)) (j : Nat) (hk : lv[j]? = some (i, .int x)) (q : Nat) (hq : pc + 2 = q) (h : JJ X A Q nL P k n q lv (.int x :: st)) : JJ X A Q nL P k n pc lv (st) := by
  subst hq
  exact fun H locs ls hP hS hh => lv_iload hX.1 hX.2.1 d (lv_at hh j hk) (h H locs ls hP hS hh)
theorem jj_lload_n {kf : Fin 4} {x : Int64} (hX : JX X own cc nL ret F LL mc ms) (d : decode cc pc = .ok (.lload_n kf, 1)) (j : Nat) (hk : lv[j]? = some ((kf : Nat), .long x)) (q : Nat) (hq : pc + 1 = q) (h : JJ X A Q nL P k n q lv (.long x :: st)) : JJ X A Q nL P k n pc lv (st) := by
  subst hq
  exact fun H locs ls hP hS hh => lv_lload_n hX.1 hX.2.1 d rfl (lv_at hh j hk) (h H locs ls hP hS hh)
theorem jj_lload {i : Nat} {x : Int64} (hX : JX X own cc nL ret F LL mc ms) (d : decode cc pc = .ok (.lload i, 2)) (j : Nat) (hk : lv[j]? = some (i, .long x)) (q : Nat) (hq : pc + 2 = q) (h : JJ X A Q nL P k n q lv (.long x :: st)) : JJ X A Q nL P k n pc lv (st) := by
  subst hq
  exact fun H locs ls hP hS hh => lv_lload hX.1 hX.2.1 d (lv_at hh j hk) (h H locs ls hP hS hh)
theorem jj_aload_n {kf : Fin 4} {x : Nat} (hX : JX X own cc nL ret F LL mc ms) (d : decode cc pc = .ok (.aload_n kf, 1)) (j : Nat) (hk : lv[j]? = some ((kf : Nat), .ref x)) (q : Nat) (hq : pc + 1 = q) (h : JJ X A Q nL P k n q lv (.ref x :: st)) : JJ X A Q nL P k n pc lv (st) := by
  subst hq
  exact fun H locs ls hP hS hh => lv_aload_n hX.1 hX.2.1 d rfl (lv_at hh j hk) (h H locs ls hP hS hh)
theorem jj_aload {i : Nat} {x : Nat} (hX : JX X own cc nL ret F LL mc ms) (d : decode cc pc = .ok (.aload i, 2)) (j : Nat) (hk : lv[j]? = some (i, .ref x)) (q : Nat) (hq : pc + 2 = q) (h : JJ X A Q nL P k n q lv (.ref x :: st)) : JJ X A Q nL P k n pc lv (st) := by
  subst hq
  exact fun H locs ls hP hS hh => lv_aload hX.1 hX.2.1 d (lv_at hh j hk) (h H locs ls hP hS hh)
theorem jj_istore_n {kf : Fin 4} {x : Int32} {lv2 : List (Nat × Value)} (hX : JX X own cc nL ret F LL mc ms) (d : decode cc pc = .ok (.istore_n kf, 1)) (hn : (kf : Nat) < nL) (ks : List Nat) (hl : lv_pick (((kf : Nat), Value.int x) :: lv.filter (fun q => !(q.1 == (kf : Nat)) && !(q.1 + 1 == (kf : Nat) && q.2.category == 2))) ks = lv2) (q : Nat) (hq : pc + 1 = q) (h : JJ X A Q nL P k n q lv2 st) : JJ X A Q nL P k n pc lv (Value.int x :: st) := by
  subst hq
  exact fun H locs ls hP hS hh => lv_istore_n hX.1 hX.2.1 d rfl hh hn rfl (fun ls2 hh2 => h H locs ls2 hP hS (lv_sub hh2 ks hl))
theorem jj_istore {i : Nat} {x : Int32} {lv2 : List (Nat × Value)} (hX : JX X own cc nL ret F LL mc ms) (d : decode cc pc = .ok (.istore i, 2)) (hn : i < nL) (ks : List Nat) (hl : lv_pick ((i, Value.int x) :: lv.filter (fun q => !(q.1 == i) && !(q.1 + 1 == i && q.2.category == 2))) ks = lv2) (q : Nat) (hq : pc + 2 = q) (h : JJ X A Q nL P k n q lv2 st) : JJ X A Q nL P k n pc lv (Value.int x :: st) := by
  subst hq
  exact fun H locs ls hP hS hh => lv_istore hX.1 hX.2.1 d hh hn rfl (fun ls2 hh2 => h H locs ls2 hP hS (lv_sub hh2 ks hl))
theorem jj_lstore_n {kf : Fin 4} {x : Int64} {lv2 : List (Nat × Value)} (hX : JX X own cc nL ret F LL mc ms) (d : decode cc pc = .ok (.lstore_n kf, 1)) (hn : (kf : Nat) + 1 < nL) (ks : List Nat) (hl : lv_pick (((kf : Nat), Value.long x) :: lv.filter (fun q => !(q.1 == (kf : Nat)) && (!(q.1 == (kf : Nat) + 1) && !(q.1 + 1 == (kf : Nat) && q.2.category == 2)))) ks = lv2) (q : Nat) (hq : pc + 1 = q) (h : JJ X A Q nL P k n q lv2 st) : JJ X A Q nL P k n pc lv (Value.long x :: st) := by
  subst hq
  exact fun H locs ls hP hS hh => lv_lstore_n hX.1 hX.2.1 d rfl hh hn rfl (fun ls2 hh2 => h H locs ls2 hP hS (lv_sub hh2 ks hl))
theorem jj_lstore {i : Nat} {x : Int64} {lv2 : List (Nat × Value)} (hX : JX X own cc nL ret F LL mc ms) (d : decode cc pc = .ok (.lstore i, 2)) (hn : i + 1 < nL) (ks : List Nat) (hl : lv_pick ((i, Value.long x) :: lv.filter (fun q => !(q.1 == i) && (!(q.1 == i + 1) && !(q.1 + 1 == i && q.2.category == 2)))) ks = lv2) (q : Nat) (hq : pc + 2 = q) (h : JJ X A Q nL P k n q lv2 st) : JJ X A Q nL P k n pc lv (Value.long x :: st) := by
  subst hq
  exact fun H locs ls hP hS hh => lv_lstore hX.1 hX.2.1 d hh hn rfl (fun ls2 hh2 => h H locs ls2 hP hS (lv_sub hh2 ks hl))
theorem jj_astore_n {kf : Fin 4} {x : Nat} {lv2 : List (Nat × Value)} (hX : JX X own cc nL ret F LL mc ms) (d : decode cc pc = .ok (.astore_n kf, 1)) (hn : (kf : Nat) < nL) (ks : List Nat) (hl : lv_pick (((kf : Nat), Value.ref x) :: lv.filter (fun q => !(q.1 == (kf : Nat)) && !(q.1 + 1 == (kf : Nat) && q.2.category == 2))) ks = lv2) (q : Nat) (hq : pc + 1 = q) (h : JJ X A Q nL P k n q lv2 st) : JJ X A Q nL P k n pc lv (Value.ref x :: st) := by
  subst hq
  exact fun H locs ls hP hS hh => lv_astore_n hX.1 hX.2.1 d rfl hh hn rfl (fun ls2 hh2 => h H locs ls2 hP hS (lv_sub hh2 ks hl))
theorem jj_astore {i : Nat} {x : Nat} {lv2 : List (Nat × Value)} (hX : JX X own cc nL ret F LL mc ms) (d : decode cc pc = .ok (.astore i, 2)) (hn : i < nL) (ks : List Nat) (hl : lv_pick ((i, Value.ref x) :: lv.filter (fun q => !(q.1 == i) && !(q.1 + 1 == i && q.2.category == 2))) ks = lv2) (q : Nat) (hq : pc + 2 = q) (h : JJ X A Q nL P k n q lv2 st) : JJ X A Q nL P k n pc lv (Value.ref x :: st) := by
  subst hq
  exact fun H locs ls hP hS hh => lv_astore hX.1 hX.2.1 d hh hn rfl (fun ls2 hh2 => h H locs ls2 hP hS (lv_sub hh2 ks hl))
theorem jj_iinc {i : Nat} {z : Int} {x v : Int32} {lv2 : List (Nat × Value)} (hX : JX X own cc nL ret F LL mc ms) (d : decode cc pc = .ok (.iinc i z, 3)) (j : Nat) (hk : lv[j]? = some (i, .int x)) (hv : x + Int32.ofInt z = v) (hn : i < nL) (ks : List Nat) (hl : lv_pick ((i, Value.int v) :: lv.filter (fun q => !(q.1 == i) && !(q.1 + 1 == i && q.2.category == 2))) ks = lv2) (q : Nat) (hq : pc + 3 = q) (h : JJ X A Q nL P k n q lv2 st) : JJ X A Q nL P k n pc lv st := by
  subst hq
  exact fun H locs ls hP hS hh => lv_iinc hX.1 hX.2.1 d hh hk hv hn rfl (fun ls2 hh2 => h H locs ls2 hP hS (lv_sub hh2 ks hl))
theorem jj_iadd {x y : Int32} (hX : JX X own cc nL ret F LL mc ms) (d : decode cc pc = .ok (.iadd, 1))  (q : Nat) (hq : pc + 1 = q) (h : JJ X A Q nL P k n q lv (.int (x + y) :: st)) : JJ X A Q nL P k n pc lv (.int y :: .int x :: st) := by
  subst hq
  exact fun H locs ls hP hS hh => lv_iadd hX.1 hX.2.1 d (h H locs ls hP hS hh)
theorem jj_isub {x y : Int32} (hX : JX X own cc nL ret F LL mc ms) (d : decode cc pc = .ok (.isub, 1))  (q : Nat) (hq : pc + 1 = q) (h : JJ X A Q nL P k n q lv (.int (x - y) :: st)) : JJ X A Q nL P k n pc lv (.int y :: .int x :: st) := by
  subst hq
  exact fun H locs ls hP hS hh => lv_isub hX.1 hX.2.1 d (h H locs ls hP hS hh)
theorem jj_imul {x y : Int32} (hX : JX X own cc nL ret F LL mc ms) (d : decode cc pc = .ok (.imul, 1))  (q : Nat) (hq : pc + 1 = q) (h : JJ X A Q nL P k n q lv (.int (x * y) :: st)) : JJ X A Q nL P k n pc lv (.int y :: .int x :: st) := by
  subst hq
  exact fun H locs ls hP hS hh => lv_imul hX.1 hX.2.1 d (h H locs ls hP hS hh)
theorem jj_iand {x y : Int32} (hX : JX X own cc nL ret F LL mc ms) (d : decode cc pc = .ok (.iand, 1))  (q : Nat) (hq : pc + 1 = q) (h : JJ X A Q nL P k n q lv (.int (x &&& y) :: st)) : JJ X A Q nL P k n pc lv (.int y :: .int x :: st) := by
  subst hq
  exact fun H locs ls hP hS hh => lv_iand hX.1 hX.2.1 d (h H locs ls hP hS hh)
theorem jj_ior {x y : Int32} (hX : JX X own cc nL ret F LL mc ms) (d : decode cc pc = .ok (.ior, 1))  (q : Nat) (hq : pc + 1 = q) (h : JJ X A Q nL P k n q lv (.int (x ||| y) :: st)) : JJ X A Q nL P k n pc lv (.int y :: .int x :: st) := by
  subst hq
  exact fun H locs ls hP hS hh => lv_ior hX.1 hX.2.1 d (h H locs ls hP hS hh)
theorem jj_ixor {x y : Int32} (hX : JX X own cc nL ret F LL mc ms) (d : decode cc pc = .ok (.ixor, 1))  (q : Nat) (hq : pc + 1 = q) (h : JJ X A Q nL P k n q lv (.int (x ^^^ y) :: st)) : JJ X A Q nL P k n pc lv (.int y :: .int x :: st) := by
  subst hq
  exact fun H locs ls hP hS hh => lv_ixor hX.1 hX.2.1 d (h H locs ls hP hS hh)
theorem jj_ishl {x y : Int32} (hX : JX X own cc nL ret F LL mc ms) (d : decode cc pc = .ok (.ishl, 1))  (q : Nat) (hq : pc + 1 = q) (h : JJ X A Q nL P k n q lv (.int (x <<< (y &&& 31)) :: st)) : JJ X A Q nL P k n pc lv (.int y :: .int x :: st) := by
  subst hq
  exact fun H locs ls hP hS hh => lv_ishl hX.1 hX.2.1 d (h H locs ls hP hS hh)
theorem jj_ishr {x y : Int32} (hX : JX X own cc nL ret F LL mc ms) (d : decode cc pc = .ok (.ishr, 1))  (q : Nat) (hq : pc + 1 = q) (h : JJ X A Q nL P k n q lv (.int (x >>> (y &&& 31)) :: st)) : JJ X A Q nL P k n pc lv (.int y :: .int x :: st) := by
  subst hq
  exact fun H locs ls hP hS hh => lv_ishr hX.1 hX.2.1 d (h H locs ls hP hS hh)
theorem jj_idiv {x y : Int32} (hX : JX X own cc nL ret F LL mc ms) (d : decode cc pc = .ok (.idiv, 1)) (hne : ¬ y = 0) (q : Nat) (hq : pc + 1 = q) (h : JJ X A Q nL P k n q lv (.int (x / y) :: st)) : JJ X A Q nL P k n pc lv (.int y :: .int x :: st) := by
  subst hq
  exact fun H locs ls hP hS hh => lv_idiv hX.1 hX.2.1 d hne (h H locs ls hP hS hh)
theorem jj_irem {x y : Int32} (hX : JX X own cc nL ret F LL mc ms) (d : decode cc pc = .ok (.irem, 1)) (hne : ¬ y = 0) (q : Nat) (hq : pc + 1 = q) (h : JJ X A Q nL P k n q lv (.int (x - x / y * y) :: st)) : JJ X A Q nL P k n pc lv (.int y :: .int x :: st) := by
  subst hq
  exact fun H locs ls hP hS hh => lv_irem hX.1 hX.2.1 d hne (h H locs ls hP hS hh)
theorem jj_ldiv {x y : Int64} (hX : JX X own cc nL ret F LL mc ms) (d : decode cc pc = .ok (.ldiv, 1)) (hne : ¬ y = 0) (q : Nat) (hq : pc + 1 = q) (h : JJ X A Q nL P k n q lv (.long (x / y) :: st)) : JJ X A Q nL P k n pc lv (.long y :: .long x :: st) := by
  subst hq
  exact fun H locs ls hP hS hh => lv_ldiv hX.1 hX.2.1 d hne (h H locs ls hP hS hh)
theorem jj_lrem {x y : Int64} (hX : JX X own cc nL ret F LL mc ms) (d : decode cc pc = .ok (.lrem, 1)) (hne : ¬ y = 0) (q : Nat) (hq : pc + 1 = q) (h : JJ X A Q nL P k n q lv (.long (x - x / y * y) :: st)) : JJ X A Q nL P k n pc lv (.long y :: .long x :: st) := by
  subst hq
  exact fun H locs ls hP hS hh => lv_lrem hX.1 hX.2.1 d hne (h H locs ls hP hS hh)
theorem jj_lcmp {x y : Int64} (hX : JX X own cc nL ret F LL mc ms) (d : decode cc pc = .ok (.lcmp, 1))  (q : Nat) (hq : pc + 1 = q) (h : JJ X A Q nL P k n q lv (.int (lg_cmp x y) :: st)) : JJ X A Q nL P k n pc lv (.long y :: .long x :: st) := by
  subst hq
  exact fun H locs ls hP hS hh => W.lcmp hX.1 hX.2.1 d (h H locs ls hP hS hh)
theorem jj_i2l {x : Int32} (hX : JX X own cc nL ret F LL mc ms) (d : decode cc pc = .ok (.i2l, 1))  (q : Nat) (hq : pc + 1 = q) (h : JJ X A Q nL P k n q lv (.long x.toInt64 :: st)) : JJ X A Q nL P k n pc lv (.int x :: st) := by
  subst hq
  exact fun H locs ls hP hS hh => lv_i2l hX.1 hX.2.1 d rfl (h H locs ls hP hS hh)
theorem jj_l2i {x : Int64} (hX : JX X own cc nL ret F LL mc ms) (d : decode cc pc = .ok (.l2i, 1))  (q : Nat) (hq : pc + 1 = q) (h : JJ X A Q nL P k n q lv (.int x.toInt32 :: st)) : JJ X A Q nL P k n pc lv (.long x :: st) := by
  subst hq
  exact fun H locs ls hP hS hh => lv_l2i hX.1 hX.2.1 d rfl (h H locs ls hP hS hh)
theorem jj_i2b {x : Int32} (hX : JX X own cc nL ret F LL mc ms) (d : decode cc pc = .ok (.i2b, 1))  (q : Nat) (hq : pc + 1 = q) (h : JJ X A Q nL P k n q lv (.int x.toInt8.toInt32 :: st)) : JJ X A Q nL P k n pc lv (.int x :: st) := by
  subst hq
  exact fun H locs ls hP hS hh => lv_i2b hX.1 hX.2.1 d rfl (h H locs ls hP hS hh)
theorem jj_i2s {x : Int32} (hX : JX X own cc nL ret F LL mc ms) (d : decode cc pc = .ok (.i2s, 1))  (q : Nat) (hq : pc + 1 = q) (h : JJ X A Q nL P k n q lv (.int x.toInt16.toInt32 :: st)) : JJ X A Q nL P k n pc lv (.int x :: st) := by
  subst hq
  exact fun H locs ls hP hS hh => lv_i2s hX.1 hX.2.1 d rfl (h H locs ls hP hS hh)
theorem jj_dup {va : Value} (hX : JX X own cc nL ret F LL mc ms) (d : decode cc pc = .ok (.dup, 1)) (hva : va.category = 1) (q : Nat) (hq : pc + 1 = q) (h : JJ X A Q nL P k n q lv (va :: va :: st)) : JJ X A Q nL P k n pc lv (va :: st) := by
  subst hq
  exact fun H locs ls hP hS hh => lv_dup hX.1 hX.2.1 d hva (h H locs ls hP hS hh)
theorem jj_pop {va : Value} (hX : JX X own cc nL ret F LL mc ms) (d : decode cc pc = .ok (.pop, 1)) (hva : va.category = 1) (q : Nat) (hq : pc + 1 = q) (h : JJ X A Q nL P k n q lv (st)) : JJ X A Q nL P k n pc lv (va :: st) := by
  subst hq
  exact fun H locs ls hP hS hh => lv_pop hX.1 hX.2.1 d hva (h H locs ls hP hS hh)
theorem jj_dup2 {va vb : Value} (hX : JX X own cc nL ret F LL mc ms) (d : decode cc pc = .ok (.dup2, 1)) (hva : va.category = 1) (hvb : vb.category = 1) (q : Nat) (hq : pc + 1 = q) (h : JJ X A Q nL P k n q lv (va :: vb :: va :: vb :: st)) : JJ X A Q nL P k n pc lv (va :: vb :: st) := by
  subst hq
  exact fun H locs ls hP hS hh => lv_dup2_11 hX.1 hX.2.1 d hva hvb (h H locs ls hP hS hh)
theorem jj_if_eq {x : Int32} {off : Int} (hX : JX X own cc nL ret F LL mc ms) (d : decode cc pc = .ok (.ifCond .eq off, 3)) (t q : Nat) (ht : (pc : Int) + off = (t : Int)) (hq : pc + 3 = q) (kt : x = 0 → JJ X A Q nL P k n t lv st) (kf : ¬ x = 0 → JJ X A Q nL P k n q lv st) : JJ X A Q nL P k n pc lv (.int x :: st) := by
  subst hq
  exact fun H locs ls hP hS hh => lv_if_eq hX.1 hX.2.1 d ht (fun c9 => kt c9 H locs ls hP hS hh) (fun c9 => kf c9 H locs ls hP hS hh)
theorem jj_icmp_eq {x y : Int32} {off : Int} (hX : JX X own cc nL ret F LL mc ms) (d : decode cc pc = .ok (.if_icmp .eq off, 3)) (t q : Nat) (ht : (pc : Int) + off = (t : Int)) (hq : pc + 3 = q) (kt : x = y → JJ X A Q nL P k n t lv st) (kf : ¬ x = y → JJ X A Q nL P k n q lv st) : JJ X A Q nL P k n pc lv (.int y :: .int x :: st) := by
  subst hq
  exact fun H locs ls hP hS hh => lv_icmp_eq hX.1 hX.2.1 d ht (fun c9 => kt c9 H locs ls hP hS hh) (fun c9 => kf c9 H locs ls hP hS hh)
theorem jj_if_ne {x : Int32} {off : Int} (hX : JX X own cc nL ret F LL mc ms) (d : decode cc pc = .ok (.ifCond .ne off, 3)) (t q : Nat) (ht : (pc : Int) + off = (t : Int)) (hq : pc + 3 = q) (kt : ¬ x = 0 → JJ X A Q nL P k n t lv st) (kf : x = 0 → JJ X A Q nL P k n q lv st) : JJ X A Q nL P k n pc lv (.int x :: st) := by
  subst hq
  exact fun H locs ls hP hS hh => lv_if_ne hX.1 hX.2.1 d ht (fun c9 => kt c9 H locs ls hP hS hh) (fun c9 => kf c9 H locs ls hP hS hh)
theorem jj_icmp_ne {x y : Int32} {off : Int} (hX : JX X own cc nL ret F LL mc ms) (d : decode cc pc = .ok (.if_icmp .ne off, 3)) (t q : Nat) (ht : (pc : Int) + off = (t : Int)) (hq : pc + 3 = q) (kt : ¬ x = y → JJ X A Q nL P k n t lv st) (kf : x = y → JJ X A Q nL P k n q lv st) : JJ X A Q nL P k n pc lv (.int y :: .int x :: st) := by
  subst hq
  exact fun H locs ls hP hS hh => lv_icmp_ne hX.1 hX.2.1 d ht (fun c9 => kt c9 H locs ls hP hS hh) (fun c9 => kf c9 H locs ls hP hS hh)
theorem jj_if_lt {x : Int32} {off : Int} (hX : JX X own cc nL ret F LL mc ms) (d : decode cc pc = .ok (.ifCond .lt off, 3)) (t q : Nat) (ht : (pc : Int) + off = (t : Int)) (hq : pc + 3 = q) (kt : x < 0 → JJ X A Q nL P k n t lv st) (kf : ¬ x < 0 → JJ X A Q nL P k n q lv st) : JJ X A Q nL P k n pc lv (.int x :: st) := by
  subst hq
  exact fun H locs ls hP hS hh => lv_if_lt hX.1 hX.2.1 d ht (fun c9 => kt c9 H locs ls hP hS hh) (fun c9 => kf c9 H locs ls hP hS hh)
theorem jj_icmp_lt {x y : Int32} {off : Int} (hX : JX X own cc nL ret F LL mc ms) (d : decode cc pc = .ok (.if_icmp .lt off, 3)) (t q : Nat) (ht : (pc : Int) + off = (t : Int)) (hq : pc + 3 = q) (kt : x < y → JJ X A Q nL P k n t lv st) (kf : ¬ x < y → JJ X A Q nL P k n q lv st) : JJ X A Q nL P k n pc lv (.int y :: .int x :: st) := by
  subst hq
  exact fun H locs ls hP hS hh => lv_icmp_lt hX.1 hX.2.1 d ht (fun c9 => kt c9 H locs ls hP hS hh) (fun c9 => kf c9 H locs ls hP hS hh)
theorem jj_if_ge {x : Int32} {off : Int} (hX : JX X own cc nL ret F LL mc ms) (d : decode cc pc = .ok (.ifCond .ge off, 3)) (t q : Nat) (ht : (pc : Int) + off = (t : Int)) (hq : pc + 3 = q) (kt : 0 ≤ x → JJ X A Q nL P k n t lv st) (kf : ¬ 0 ≤ x → JJ X A Q nL P k n q lv st) : JJ X A Q nL P k n pc lv (.int x :: st) := by
  subst hq
  exact fun H locs ls hP hS hh => lv_if_ge hX.1 hX.2.1 d ht (fun c9 => kt c9 H locs ls hP hS hh) (fun c9 => kf c9 H locs ls hP hS hh)
theorem jj_icmp_ge {x y : Int32} {off : Int} (hX : JX X own cc nL ret F LL mc ms) (d : decode cc pc = .ok (.if_icmp .ge off, 3)) (t q : Nat) (ht : (pc : Int) + off = (t : Int)) (hq : pc + 3 = q) (kt : y ≤ x → JJ X A Q nL P k n t lv st) (kf : ¬ y ≤ x → JJ X A Q nL P k n q lv st) : JJ X A Q nL P k n pc lv (.int y :: .int x :: st) := by
  subst hq
  exact fun H locs ls hP hS hh => lv_icmp_ge hX.1 hX.2.1 d ht (fun c9 => kt c9 H locs ls hP hS hh) (fun c9 => kf c9 H locs ls hP hS hh)
theorem jj_if_gt {x : Int32} {off : Int} (hX : JX X own cc nL ret F LL mc ms) (d : decode cc pc = .ok (.ifCond .gt off, 3)) (t q : Nat) (ht : (pc : Int) + off = (t : Int)) (hq : pc + 3 = q) (kt : 0 < x → JJ X A Q nL P k n t lv st) (kf : ¬ 0 < x → JJ X A Q nL P k n q lv st) : JJ X A Q nL P k n pc lv (.int x :: st) := by
  subst hq
  exact fun H locs ls hP hS hh => lv_if_gt hX.1 hX.2.1 d ht (fun c9 => kt c9 H locs ls hP hS hh) (fun c9 => kf c9 H locs ls hP hS hh)
theorem jj_icmp_gt {x y : Int32} {off : Int} (hX : JX X own cc nL ret F LL mc ms) (d : decode cc pc = .ok (.if_icmp .gt off, 3)) (t q : Nat) (ht : (pc : Int) + off = (t : Int)) (hq : pc + 3 = q) (kt : y < x → JJ X A Q nL P k n t lv st) (kf : ¬ y < x → JJ X A Q nL P k n q lv st) : JJ X A Q nL P k n pc lv (.int y :: .int x :: st) := by
  subst hq
  exact fun H locs ls hP hS hh => lv_icmp_gt hX.1 hX.2.1 d ht (fun c9 => kt c9 H locs ls hP hS hh) (fun c9 => kf c9 H locs ls hP hS hh)
theorem jj_if_le {x : Int32} {off : Int} (hX : JX X own cc nL ret F LL mc ms) (d : decode cc pc = .ok (.ifCond .le off, 3)) (t q : Nat) (ht : (pc : Int) + off = (t : Int)) (hq : pc + 3 = q) (kt : x ≤ 0 → JJ X A Q nL P k n t lv st) (kf : ¬ x ≤ 0 → JJ X A Q nL P k n q lv st) : JJ X A Q nL P k n pc lv (.int x :: st) := by
  subst hq
  exact fun H locs ls hP hS hh => lv_if_le hX.1 hX.2.1 d ht (fun c9 => kt c9 H locs ls hP hS hh) (fun c9 => kf c9 H locs ls hP hS hh)
theorem jj_icmp_le {x y : Int32} {off : Int} (hX : JX X own cc nL ret F LL mc ms) (d : decode cc pc = .ok (.if_icmp .le off, 3)) (t q : Nat) (ht : (pc : Int) + off = (t : Int)) (hq : pc + 3 = q) (kt : x ≤ y → JJ X A Q nL P k n t lv st) (kf : ¬ x ≤ y → JJ X A Q nL P k n q lv st) : JJ X A Q nL P k n pc lv (.int y :: .int x :: st) := by
  subst hq
  exact fun H locs ls hP hS hh => lv_icmp_le hX.1 hX.2.1 d ht (fun c9 => kt c9 H locs ls hP hS hh) (fun c9 => kf c9 H locs ls hP hS hh)
theorem jj_goto {off : Int} (hX : JX X own cc nL ret F LL mc ms) (d : decode cc pc = .ok (.goto off, 3)) (t : Nat) (ht : (pc : Int) + off = (t : Int)) (h : JJ X A Q nL P k n t lv st) : JJ X A Q nL P k n pc lv st := fun H locs ls hP hS hh => lv_goto hX.1 hX.2.1 d ht (h H locs ls hP hS hh)
abbrev jj_Q (X : JC) (Qc : Array Value → State → Outcome → State → Prop) (mc ms : Nat) (A : Nat → Prop) : State → Prop := MQ (jj_b X) Qc (jj_a X) (jj_s X) mc ms A
def jj_z (r : Int32) : Prop := narrow .boolean (.int r) = .int r
theorem jj_z0 : jj_z 0 := rfl
theorem jj_z1 : jj_z 1 := rfl
/-- ends: the answer is v (int, boolean, long, nothing) -/
theorem jj_reti {S : Type} {post : Int32 → S → Prop} {B : S → State → Prop} {v : Int32} {u : S} (hX : JX X own cc nL (some .int) F LL mc ms) (d : decode cc pc = .ok (.ireturn, 1)) (hk : k ≤ mc) (hn : n ≤ ms) (hB : ∀ (H : Heap) (t : State), P H → t.heap = H → B u t) (h : post v u) : JJ X A (jj_Q X (va_Qi post B A) mc ms A) nL P k n pc lv [.int v] :=
  fun H locs ls hP hS hh => W.widen hk hn (W.iret hX.1 hX.2.1 hX.2.2.2.2.2.2.1 (fun t ht hW => ⟨⟨v, u, rfl, h, hB H t hP ht⟩, hS.F ht⟩) hS.2.2 d hX.2.2.2.2.2.1)
theorem jj_retz {S : Type} {post : Int32 → S → Prop} {B : S → State → Prop} {v : Int32} {u : S} (hX : JX X own cc nL (some .boolean) F LL mc ms) (d : decode cc pc = .ok (.ireturn, 1)) (hk : k ≤ mc) (hn : n ≤ ms) (hB : ∀ (H : Heap) (t : State), P H → t.heap = H → B u t) (hz : jj_z v) (h : post v u) : JJ X A (jj_Q X (va_Qi (fun r u => post r u ∧ jj_z r) B A) mc ms A) nL P k n pc lv [.int v] :=
  fun H locs ls hP hS hh => W.widen hk hn (W.zret hX.1 hX.2.1 hX.2.2.2.2.2.2.1 hz (fun t ht hW => ⟨⟨v, u, rfl, ⟨h, hz⟩, hB H t hP ht⟩, hS.F ht⟩) hS.2.2 d hX.2.2.2.2.2.1)
theorem jj_retl {S : Type} {post : Int64 → S → Prop} {B : S → State → Prop} {v : Int64} {u : S} (hX : JX X own cc nL (some .long) F LL mc ms) (d : decode cc pc = .ok (.lreturn, 1)) (hk : k ≤ mc) (hn : n ≤ ms) (hB : ∀ (H : Heap) (t : State), P H → t.heap = H → B u t) (h : post v u) : JJ X A (jj_Q X (va_Ql post B A) mc ms A) nL P k n pc lv [.long v] :=
  fun H locs ls hP hS hh => W.widen hk hn (W.lret hX.1 hX.2.1 hX.2.2.2.2.2.2.1 (fun t ht hW => ⟨⟨v, u, rfl, h, hB H t hP ht⟩, hS.F ht⟩) hS.2.2 d hX.2.2.2.2.2.1)
theorem jj_retv {S : Type} {post : S → Prop} {B : S → State → Prop} {u : S} (hX : JX X own cc nL none F LL mc ms) (d : decode cc pc = .ok (.return_, 1)) (hk : k ≤ mc) (hn : n ≤ ms) (hB : ∀ (H : Heap) (t : State), P H → t.heap = H → B u t) (h : post u) : JJ X A (jj_Q X (va_Qv post B A) mc ms A) nL P k n pc lv [] :=
  fun H locs ls hP hS hh => W.widen hk hn (W.vret hX.1 hX.2.1 hX.2.2.2.2.2.2.1 (fun t ht hW => ⟨⟨u, rfl, h, hB H t hP ht⟩, hS.F ht⟩) hS.2.2 d hX.2.2.2.2.2.1)
end JJ1
section JJ2
variable {p : Program} {l : Launch} {e : Env} {R : Room} {s : State} {m : MethodId} {args : Array Value} {below : List Frame} {meth : Method} {c : Code} {H : Heap} {locs : List Loc} {cells slots : Nat} {Q : State → Prop}
variable {cc : ByteArray} {pc : Nat} {ls : Array Slot} {rest : List Value} {own ref C : String} {T : u_T} {N index : Nat} {Ts : List Cond} {cC : ClassId} {iS : Nat → Nat} {a : Nat} {V : Nat → Value}
/-- getfield on an object whose fields are told by a function -/
theorem jj_getW (hx : p.tables.exec = Jvm.exec) (hb : c.code = cc) (hts : ∀ w ∈ Ts, w.before args s = true) (hin : ∀ w ∈ u_ws C T N, w ∈ Ts) (hown : s.vm.findClass own = some m.cls) (hKn : u_Kn s C T N cC iS) (hO : t_OB a cC N iS H V) (k : Nat) (hk : k < N) (hlink : (Cond.fieldLink own index ref (T k).2.1 (T k).2.2.1).before args s = true) (hsame : ∀ x, s.fieldFound? (T k).1 (T k).2.1 (T k).2.2.1 = some x → s.fieldFound? ref (T k).2.1 (T k).2.2.1 = some x) {v : Value} (hv : V k = v) (hdg : decode cc pc = .ok (.getfield index, 3))
    (kk : W p l e R s m args below meth c H locs cells slots Q (F0 m (pc + 3) ls (v :: rest))) : W p l e R s m args below meth c H locs cells slots Q (F0 m pc ls (.ref a :: rest)) := by
  obtain ⟨cell, q1, -, q3, q4⟩ := hO
  obtain ⟨hS, hfc, kC, hkC, -⟩ := hKn
  obtain ⟨cf, kf, fi, f, hi, hsl⟩ := hS k hk
  refine W.getf hx hb hown hlink (hsame _ hi) (u_facts hfc hkC (u_lays hts hin hk) hi).1 q1 (by rw [q3]; exact fun h => by cases h) (v := v) ?_ rfl rfl hdg kk
  rw [hsl, q4 k hk, hv]
theorem jj_apart (hts : ∀ w ∈ Ts, w.before args s = true) (hin : ∀ w ∈ u_ws C T N, w ∈ Ts) (ty : Nat → FieldType) (hty : ∀ k, k < N → parseFieldDescriptor (T k).2.2.1 = some (ty k)) (hnm : ∀ a, a < N → ∀ b, b < N → a ≠ b → (T a).2.1 ≠ (T b).2.1) (hKn : u_Kn s C T N cC iS) : ∀ x y, x < N → y < N → x ≠ y → iS x ≠ iS y := by
  intro x y hx hy hne
  obtain ⟨_, _, _, fa, hia, ea⟩ := hKn.1 x hx
  obtain ⟨_, _, _, fb, hib, eb⟩ := hKn.1 y hy
  rw [← ea, ← eb]
  refine u_apart (u_lays hts hin hx) (u_lays hts hin hy) hia hib ?_
  rw [(State.fieldFound?_type hia (hty x hx)).1, (State.fieldFound?_type hib (hty y hy)).1]
  exact hnm x hx y hy hne
/-- putfield, a field that isn't final: what stands elsewhere stays -/
theorem jj_putW (hx : p.tables.exec = Jvm.exec) (hb : c.code = cc) (hts : ∀ w ∈ Ts, w.before args s = true) (hin : ∀ w ∈ u_ws C T N, w ∈ Ts) (ty0 : Nat → FieldType) (hty : ∀ k, k < N → parseFieldDescriptor (T k).2.2.1 = some (ty0 k)) (hnm : ∀ a, a < N → ∀ b, b < N → a ≠ b → (T a).2.1 ≠ (T b).2.1) (hown : s.vm.findClass own = some m.cls) (hKn : u_Kn s C T N cC iS) (hO : t_OB a cC N iS H V) (k : Nat) (hk : k < N) (hlink : (Cond.fieldLink own index ref (T k).2.1 (T k).2.2.1).before args s = true) (hsame : ∀ x, s.fieldFound? (T k).1 (T k).2.1 (T k).2.2.1 = some x → s.fieldFound? ref (T k).2.1 (T k).2.2.1 = some x) (hfin : (T k).2.2.2 = false) {ty : FieldType} {v : Value} (hd : parseFieldDescriptor (T k).2.2.1 = some ty) (hn : narrow ty v = v) (hfit : fits ty v = true) (hdg : decode cc pc = .ok (.putfield index, 3))
    (kk : ∀ H1 : Heap, t_OB a cC N iS H1 (updV V k v) → H1.size = H.size → (∀ q : Nat, q ≠ a → H1[q]? = H[q]?) → W p l e R s m args below meth c H1 (locs ++ [⟨a, iS k⟩]) cells slots Q (F0 m (pc + 3) ls rest)) : W p l e R s m args below meth c H locs cells slots Q (F0 m pc ls (v :: .ref a :: rest)) := by
  have hap := jj_apart hts hin ty0 hty hnm hKn
  obtain ⟨cell, q1, q2, q3, q4⟩ := hO
  obtain ⟨hS, hfc, kC, hkC, hkind⟩ := hKn
  obtain ⟨cf, kf, fi, f, hi, hsl⟩ := hS k hk
  have hlay := hts _ (hin _ (u_in_lay hk))
  unfold u_lay at hlay
  rw [if_neg (by rw [hfin]; decide)] at hlay
  have hst := (u_facts hfc hkC (u_lays hts hin hk) hi).1
  have h6 := u_store hfc hkC hkind hlay hi hd hn hfit
  refine W.putK hx hb (f := f) ⟨hown, hlink, ⟨_, _, _, hsame _ hi⟩, hst⟩ (by rw [q2]; exact h6) q1 q3 (by rw [hsl]; exact k2_hasslot (q4 k hk)) rfl rfl hdg fun H' e1 e2 e3 => ?_
  rw [hsl] at e1 ⊢
  exact kk H' ⟨_, e1, q2, q3, t_set q4 hap hk v⟩ e2 e3
/-- .. and any field in its class's constructor, final -/
theorem jj_putFW (hx : p.tables.exec = Jvm.exec) (hb : c.code = cc) (hts : ∀ w ∈ Ts, w.before args s = true) (hin : ∀ w ∈ u_ws C T N, w ∈ Ts) (ty0 : Nat → FieldType) (hty : ∀ k, k < N → parseFieldDescriptor (T k).2.2.1 = some (ty0 k)) (hnm : ∀ a, a < N → ∀ b, b < N → a ≠ b → (T a).2.1 ≠ (T b).2.1) (hown : s.vm.findClass own = some m.cls) (hKn : u_Kn s C T N cC iS) (hO : t_OB a cC N iS H V) (k : Nat) (hk : k < N) (hlink : (Cond.fieldLink own index ref (T k).2.1 (T k).2.2.1).before args s = true) (hsame : ∀ x, s.fieldFound? (T k).1 (T k).2.1 (T k).2.2.1 = some x → s.fieldFound? ref (T k).2.1 (T k).2.2.1 = some x) (hfin : (T k).2.2.2 = true) (hin2 : meth.name = "<init>") (hdecl : (T k).1 = own) {ty : FieldType} {v : Value} (hd : parseFieldDescriptor (T k).2.2.1 = some ty) (hn : narrow ty v = v) (hfit : fits ty v = true) (hdg : decode cc pc = .ok (.putfield index, 3))
    (kk : ∀ H1 : Heap, t_OB a cC N iS H1 (updV V k v) → H1.size = H.size → (∀ q : Nat, q ≠ a → H1[q]? = H[q]?) → W p l e R s m args below meth c H1 (locs ++ [⟨a, iS k⟩]) cells slots Q (F0 m (pc + 3) ls rest)) : W p l e R s m args below meth c H locs cells slots Q (F0 m pc ls (v :: .ref a :: rest)) := by
  have hap := jj_apart hts hin ty0 hty hnm hKn
  obtain ⟨cell, q1, q2, q3, q4⟩ := hO
  obtain ⟨hS, hfc, kC, hkC, hkind⟩ := hKn
  obtain ⟨cf, kf, fi, f, hi, hsl⟩ := hS k hk
  have hlay := hts _ (hin _ (u_in_lay hk))
  unfold u_lay at hlay
  rw [if_pos hfin] at hlay
  have hst := (u_facts hfc hkC (u_lays hts hin hk) hi).1
  have hcf : m.cls = cf := by
    obtain ⟨_, _, c', _, _, _, -, -, hf', -, -, -, hown2, -⟩ := Cond.laysFinal_spec hlay
    have e1 : c' = cf := by have := hi.symm.trans hf'; simp at this; exact this.1.symm
    rw [hdecl] at hown2
    rw [← e1]; exact Option.some.inj (hown.symm.trans hown2)
  have h6 := u_fits hfc hkC hkind (Or.inr hlay) hi hd hn hfit
  refine W.putFinK hx hb hown hlink (hsame _ hi) hst hcf hin2 (by rw [q2]; exact h6) q1 q3 (by rw [hsl]; exact k2_hasslot (q4 k hk)) rfl rfl hdg fun H' e1 e2 e3 => ?_
  rw [hsl] at e1 ⊢
  exact kk H' ⟨_, e1, q2, q3, t_set q4 hap hk v⟩ e2 e3
end JJ2
