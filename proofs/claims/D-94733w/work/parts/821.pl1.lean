/-! PLAIN LAW 1: what both sides hold between two calls -/
set_option linter.unusedVariables false
def hN (h : Nat → Int32) (k : Nat) : Nat := (h k).toNatClampNeg
/-- the i-th slot of the reference -/
def sl (m : MS) (i : Nat) : Nat → Int32 := fun k => if k < 3300 then jm_i m 1 (3300 * i + k) else 0
theorem sl_of {m : MS} {k : Nat} (h : k < 3300) : jm_i m 1 k = sl m 0 k := by simp [sl, h]
/-- a number that is not negative, at most b -/
def isN (v : Int32) (b : Nat) : Prop := v = nI v.toNatClampNeg ∧ v.toNatClampNeg ≤ b
/-- a table -/
def WT (h : Nat → Int32) : Prop :=
  (h 0 = nI (hN h 0) ∧ hN h 0 ≤ 24) ∧ (h 1 = nI (hN h 1) ∧ hN h 1 ≤ 63) ∧ (h 2 = nI (hN h 2) ∧ hN h 2 ≤ 63) ∧ (h 3 = nI (hN h 3) ∧ hN h 3 ≤ 63) ∧
  (h 4 = nI (hN h 4) ∧ 4 ≤ hN h 4 ∧ hN h 4 ≤ 40) ∧ (h 5 = nI (hN h 5) ∧ 2 ≤ hN h 5 ∧ hN h 5 ≤ 30) ∧
  ∀ r, r < hN h 0 →
    (h (12 + 12 * r) = nI (hN h (12 + 12 * r)) ∧ 1 ≤ hN h (12 + 12 * r) ∧ hN h (12 + 12 * r) ≤ 6) ∧
    (∀ k, k < hN h (12 + 12 * r) → h (12 + 12 * r + 1 + k) = nI (hN h (12 + 12 * r + 1 + k)) ∧ 1 ≤ hN h (12 + 12 * r + 1 + k) ∧ hN h (12 + 12 * r + 1 + k) ≤ 26) ∧
    (h (12 + 12 * r + 7) = nI (hN h (12 + 12 * r + 7)) ∧ 1 ≤ hN h (12 + 12 * r + 7) ∧ hN h (12 + 12 * r + 7) ≤ 3) ∧
    (∀ k, k < hN h (12 + 12 * r + 7) → h (12 + 12 * r + 7 + 1 + k) = nI (hN h (12 + 12 * r + 7 + 1 + k)) ∧ 1 ≤ hN h (12 + 12 * r + 7 + 1 + k) ∧ hN h (12 + 12 * r + 7 + 1 + k) ≤ 63) ∧
    (h (12 + 12 * r + 11) = nI (hN h (12 + 12 * r + 11)) ∧ hN h (12 + 12 * r + 11) ≤ 4)
/-- a writing -/
def WWs (h : Nat → Int32) : Prop :=
  (h 7 = nI (hN h 7) ∧ hN h 7 ≤ 300) ∧ (∀ k, k < hN h 7 → h (300 + k) = nI (hN h (300 + k)) ∧ hN h (300 + k) < 128) ∧
  (h 8 = nI (hN h 8) ∧ hN h 8 ≤ 1250) ∧ (h 9 = nI (hN h 9) ∧ hN h 9 ≤ 150) ∧ (h 11 = nI (hN h 11) ∧ hN h 11 ≤ hN h 8) ∧
  (∀ k, k < hN h 8 → h (600 + k) = nI (hN h (600 + k)) ∧ hN h (600 + k) ≤ 63) ∧
  (∀ k, k < hN h 8 → h (2040 + k) = iM ∨ (h (2040 + k) = nI (hN h (2040 + k)) ∧ hN h (2040 + k) < hN h 0)) ∧
  (∀ k, k < hN h 9 → h (1850 + k) = nI (hN h (1850 + k)) ∧ hN h (1850 + k) + 1 ≤ hN h 8) ∧
  (∀ k, k + 1 < hN h 9 → hN h (1850 + k) + 2 ≤ hN h (1850 + (k + 1)))
def WW (h : Nat → Int32) : Prop := h 7 = iM ∨ WWs h
/-- how many cells a piece has -/
def pM (h : Nat → Int32) (k : Nat) : Nat := (if k + 1 < hN h 9 then hN h (1850 + (k + 1)) - 1 else hN h 8) - hN h (1850 + k)
/-- lines: how many, cells laid, hyphens; cells; where each begins; in which a piece begins, ends -/
abbrev LT : Type := Nat × Nat × Nat × (Nat → Int32) × (Nat → Nat) × (Nat → Nat) × (Nat → Nat)
def up {α : Type} (f : Nat → α) (k : Nat) (v : α) : Nat → α := fun j => if j = k then v else f j
theorem up_s {α : Type} {f : Nat → α} {k : Nat} {v : α} : up f k v k = v := by simp [up]
theorem up_n {α : Type} {f : Nat → α} {k j : Nat} {v : α} (h : j ≠ k) : up f k v j = f j := by simp [up, h]
def tL (s : LT) : Nat := s.1
def tT (s : LT) : Nat := s.2.1
def tH (s : LT) : Nat := s.2.2.1
def tC (s : LT) : Nat → Int32 := s.2.2.2.1
def tF (s : LT) : Nat → Nat := s.2.2.2.2.1
def tB (s : LT) : Nat → Nat := s.2.2.2.2.2.1
def tE (s : LT) : Nat → Nat := s.2.2.2.2.2.2
/-- the end of a line, its cells -/
def tU (s : LT) (i : Nat) : Nat := if i + 1 < tL s then tF s (i + 1) else tT s
def tM (s : LT) (i : Nat) : Nat := tU s i - tF s i
def lNew (s : LT) : LT := (tL s + 1, tT s, tH s, tC s, up (tF s) (tL s) (tT s), tB s, tE s)
def lCell (v : Int32) (s : LT) : LT := (tL s, tT s + 1, tH s, up (tC s) (tT s) v, tF s, tB s, tE s)
def lHyp (s : LT) : LT := (tL s, tT s, tH s + 1, tC s, tF s, tB s, tE s)
def lBeg (k : Nat) (s : LT) : LT := (tL s, tT s, tH s, tC s, tF s, up (tB s) k (tL s - 1), tE s)
def lEnd (k : Nat) (s : LT) : LT := (tL s, tT s, tH s, tC s, tF s, tB s, up (tE s) k (tL s - 1))
def lCells (h : Nat → Int32) (p n : Nat) (s : LT) : LT := it (fun i s => lCell (h (600 + (p + i))) s) s n
/-- the rest of a piece from a cell on -/
def lRest (h : Nat → Int32) : Nat → Nat → Nat → LT → LT
  | 0, p, n, s => s
  | f + 1, p, n, s => if n ≤ hN h 4 then lCells h p n s else
      if h 3 = nI 0 then lRest h f (p + hN h 4) (n - hN h 4) (lNew (lCells h p (hN h 4) s))
      else lRest h f (p + (hN h 4 - 1)) (n - (hN h 4 - 1)) (lNew (lHyp (lCell (h 3) (lCells h p (hN h 4 - 1) s))))
def lPiece (h : Nat → Int32) (k : Nat) (s : LT) : LT :=
  lEnd k (lRest h (pM h k + 1) (hN h (1850 + k)) (pM h k) (lBeg k (if tL s = 0 ∨ hN h 4 < tM s (tL s - 1) + 1 + pM h k then lNew s else lCell (nI 0) s)))
def lAll (h : Nat → Int32) (n : Nat) : LT := it (lPiece h) (0, 0, 0, fun _ => 0, fun _ => 0, fun _ => 0, fun _ => 0) n
def LSh (h : Nat → Int32) : LT := lAll h (hN h 9)
/-! the component's side: a: the addresses of what is there once; ow: whose an address is (100: never changed again; from 300 on the setter's; 60.. rows of trays; 70.. marks) -/
def kc (d : Nat) : Nat := if d = 0 then 14 else 9 + d
/-- a rule -/
def rRule (K : XK) (ow : Nat → Nat) (u : XS) (o : Nat) (h : Nat → Int32) (r : Nat) : Prop :=
  ∃ la ca, K o = (1, kc (hN h (12 + 12 * r + 11))) ∧ ow o = 100 ∧ xr u o 0 = some la ∧ K la = (3, hN h (12 + 12 * r)) ∧ ow la = 100 ∧ xr u o 1 = some ca ∧ K ca = (2, hN h (12 + 12 * r + 7)) ∧ ow ca = 100 ∧
    (∀ k, k < hN h (12 + 12 * r) → xi u la k = nI (96 + hN h (12 + 12 * r + 1 + k))) ∧ (∀ k, k < hN h (12 + 12 * r + 7) → xi u ca k = h (12 + 12 * r + 7 + 1 + k))
def noI (v : Int32) : Int32 := if v = nI 0 then iM else v
def rTab (K : XK) (ow : Nat → Nat) (u : XS) (t : Nat) (h : Nat → Int32) : Prop :=
  ∃ ra, K t = (1, 5) ∧ ow t = 100 ∧ xr u t 0 = some ra ∧ K ra = (7, 24) ∧ ow ra = 100 ∧ xi u t 1 = h 0 ∧ xi u t 2 = noI (h 1) ∧ xi u t 3 = noI (h 2) ∧ xi u t 4 = noI (h 3) ∧ xi u t 5 = h 4 ∧ xi u t 6 = h 5 ∧
    ∀ r, r < hN h 0 → ∃ o, xr u ra r = some o ∧ rRule K ow u o h r
/-- an array of ints that is never changed again -/
def rArr (K : XK) (ow : Nat → Nat) (u : XS) (o f t n : Nat) (v : Nat → Int32) : Prop := ∃ q, xr u o f = some q ∧ K q = (t, n) ∧ ow q = 100 ∧ ∀ k, k < n → xi u q k = v k
def rWri (K : XK) (ow : Nat → Nat) (u : XS) (w : Nat) (h : Nat → Int32) : Prop :=
  K w = (1, 15) ∧ ow w = 100 ∧ rArr K ow u w 0 3 (hN h 7) (fun k => h (300 + k)) ∧ rArr K ow u w 1 2 (hN h 8) (fun k => h (600 + k)) ∧ rArr K ow u w 2 2 (hN h 9) (fun k => h (1850 + k)) ∧
  rArr K ow u w 3 2 (hN h 9) (fun k => nI (pM h k)) ∧ rArr K ow u w 4 2 (hN h 9) (fun k => nI (tB (LSh h) k)) ∧ rArr K ow u w 5 2 (hN h 9) (fun k => nI (tE (LSh h) k)) ∧ rArr K ow u w 6 2 (hN h 8) (fun k => h (2040 + k)) ∧
  rArr K ow u w 7 2 (tT (LSh h)) (tC (LSh h)) ∧ rArr K ow u w 8 2 (tL (LSh h) + 1) (fun k => nI (if k < tL (LSh h) then tF (LSh h) k else tT (LSh h))) ∧ rArr K ow u w 9 2 24 (fun k => h (2010 + k)) ∧
  xi u w 10 = h 10 ∧ xi u w 11 = nI (tH (LSh h)) ∧ xi u w 12 = h 11
def rHou (K : XK) (ow : Nat → Nat) (u : XS) (o : Nat) (h : Nat → Int32) : Prop :=
  WT h ∧ WW h ∧ K o = (1, 4) ∧ (∃ t, xr u o 0 = some t ∧ rTab K ow u t h) ∧ xi u o 1 = h 6 ∧ ((h 7 = iM ∧ xr u o 2 = none) ∨ (WWs h ∧ ∃ w, xr u o 2 = some w ∧ rWri K ow u w h))
/-- the setter -/
def rSet (a : Nat → Nat) (K : XK) (ow : Nat → Nat) (u : XS) (s : Nat) (as : Nat → Nat) : Prop :=
  K s = (1, 6) ∧ ow s = 300 ∧ (∃ t, xr u s 0 = some t ∧ K t = (1, 5)) ∧ xr u s 21 = some (a 0) ∧
  (xr u s 8 = some (as 8) ∧ K (as 8) = (2, 1400) ∧ ow (as 8) = 308) ∧ (xr u s 9 = some (as 9) ∧ K (as 9) = (2, 301) ∧ ow (as 9) = 309) ∧ (xr u s 10 = some (as 10) ∧ K (as 10) = (2, 301) ∧ ow (as 10) = 310) ∧
  (xr u s 11 = some (as 11) ∧ K (as 11) = (2, 301) ∧ ow (as 11) = 311) ∧ (xr u s 12 = some (as 12) ∧ K (as 12) = (2, 301) ∧ ow (as 12) = 312) ∧ (xr u s 13 = some (as 13) ∧ K (as 13) = (2, 1400) ∧ ow (as 13) = 313) ∧
  (xr u s 14 = some (as 14) ∧ K (as 14) = (2, 24) ∧ ow (as 14) = 314) ∧ (xr u s 15 = some (as 15) ∧ K (as 15) = (2, 2000) ∧ ow (as 15) = 315) ∧ (xr u s 16 = some (as 16) ∧ K (as 16) = (2, 800) ∧ ow (as 16) = 316) ∧
  (xr u s 20 = some (as 20) ∧ K (as 20) = (2, 301) ∧ ow (as 20) = 320)
/-- a tray's row -/
def rTray (K : XK) (ow : Nat → Nat) (u : XS) (m : MS) (o t : Nat) : Prop :=
  (jm_i m 3 t = iM ∧ xr u o 0 = none) ∨ ∃ q n s, xr u o 0 = some q ∧ ow q = 60 + t ∧ K q = (s + 2, n) ∧ n ≤ 60 ∧ jm_i m 3 t = nI n ∧
    ((s = 1 ∧ jm_i m 2 t = nI 0 ∧ ∀ k, k < n → jm_l m 4 (60 * t + k) = (xi u q k).toInt64) ∨ (s = 2 ∧ jm_i m 2 t = nI 1 ∧ ∀ k, k < n → jm_l m 4 (60 * t + k) = (xi u q k).toInt64) ∨
     (s = 0 ∧ jm_i m 2 t = nI 2 ∧ ∀ k, k < n → jm_l m 4 (60 * t + k) = (xi u q k).toInt64) ∨ (s = 3 ∧ jm_i m 2 t = nI 3 ∧ ∀ k, k < n → jm_l m 4 (60 * t + k) = xl u q k))
def rSta (a : Nat → Nat) (K : XK) (ow : Nat → Nat) (u : XS) : Prop :=
  (K (a 0) = (1, 0) ∧ K (a 1) = (3, 900) ∧ K (a 2) = (1, 4) ∧ K (a 3) = (2, 20) ∧ K (a 4) = (2, 1400) ∧ K (a 5) = (9, 4) ∧ K (a 6) = (1, 1) ∧ K (a 7) = (1, 1) ∧ K (a 8) = (1, 1) ∧ K (a 9) = (1, 1) ∧ K (a 10) = (8, 3) ∧
   K (a 11) = (1, 2) ∧ K (a 12) = (1, 3) ∧ K (a 13) = (2, 301) ∧ K (a 14) = (2, 20) ∧ K (a 15) = (2, 20) ∧ K (a 16) = (2, 21) ∧ K (a 17) = (3, 120) ∧ K (a 18) = (2, 72) ∧ K (a 19) = (6, 72) ∧ K (a 20) = (2, 1400)) ∧
  (∀ i, i ≤ 20 → ow (a i) = i) ∧
  (xr u (a 0) 0 = some (a 5) ∧ xr u (a 0) 1 = some (a 11) ∧ xr u (a 0) 2 = some (a 1) ∧ xr u (a 0) 6 = some (a 12) ∧ xr u (a 0) 10 = some (a 2) ∧ xr u (a 0) 11 = some (a 10) ∧ xr u (a 0) 14 = some (a 13) ∧ xr u (a 0) 15 = some (a 14) ∧
   xr u (a 0) 16 = some (a 15) ∧ xr u (a 0) 17 = some (a 16) ∧ xr u (a 0) 18 = some (a 3) ∧ xr u (a 0) 21 = some (a 17) ∧ xr u (a 0) 22 = some (a 18) ∧ xr u (a 0) 23 = some (a 19) ∧ xr u (a 0) 24 = some (a 20) ∧ xr u (a 0) 25 = some (a 4)) ∧
  (xr u (a 5) 0 = some (a 6) ∧ xr u (a 5) 1 = some (a 7) ∧ xr u (a 5) 2 = some (a 8) ∧ xr u (a 5) 3 = some (a 9))
def rSca (a : Nat → Nat) (u : XS) (m : MS) : Prop :=
  (xi u (a 0) 3 = jm_i m 0 9 ∧ ∃ n, jm_i m 0 9 = nI n ∧ n ≤ 900) ∧ xi u (a 0) 4 = jm_i m 0 15 ∧ xi u (a 0) 5 = jm_i m 0 16 ∧ xi u (a 0) 7 = jm_i m 0 1 ∧ xl u (a 0) 8 = jm_l m 0 2 ∧ xl u (a 0) 9 = jm_l m 0 3 ∧
  (∀ k, k < 900 → xi u (a 1) k = jm_i m 5 k ∧ inR (jm_i m 5 k) (-128) 127) ∧
  ((xi u (a 0) 19 = nI 0 ∧ jm_i m 0 36 = iM) ∨ ∃ n, 1 ≤ n ∧ n ≤ 20 ∧ xi u (a 0) 19 = nI n ∧ jm_i m 0 36 = nI n ∧ (∃ q, xi u (a 0) 20 = nI q ∧ jm_i m 0 37 = nI q ∧ q ≤ 1000) ∧ ∀ k, k < n → ∃ q, xi u (a 3) k = nI q ∧ jm_i m 17 k = nI q ∧ q < 24) ∧
  ((xi u (a 0) 26 = nI 0 ∧ jm_i m 0 42 = iM) ∨ ∃ n, n ≤ 1250 ∧ xi u (a 0) 26 = nI n ∧ jm_i m 0 42 = nI n ∧ ∀ k, k < n → ∃ q, xi u (a 4) k = nI q ∧ jm_i m 22 k = nI q ∧ q < 64)
def rMar (a : Nat → Nat) (K : XK) (ow : Nat → Nat) (u : XS) (m : MS) : Prop :=
  ∃ n, n ≤ 3 ∧ xi u (a 0) 12 = nI n ∧ jm_i m 0 45 = nI n ∧ ∀ i, i < 3 → (n ≤ i ∧ xr u (a 10) i = none) ∨ ∃ o, xr u (a 10) i = some o ∧ K o = (1, 4) ∧ ow o = 70 + i ∧ (i < n → rHou K ow u o (sl m (i + 1)))
def Rep (a : Nat → Nat) (K : XK) (ow : Nat → Nat) (u : XS) (m : MS) : Prop :=
  rSta a K ow u ∧ rSca a u m ∧ (∀ t, t < 4 → rTray K ow u m (a (6 + t)) t) ∧ rHou K ow u (a 2) (sl m 0) ∧ rMar a K ow u m ∧ ∃ s as, xr u (a 0) 13 = some s ∧ rSet a K ow u s as
/-! what a call that only answers may change -/
def scr (b k : Nat) : Prop := (b = 0 ∧ (k = 1 ∨ 10 ≤ k ∧ k ≤ 14 ∨ 17 ≤ k ∧ k ≤ 21 ∨ 27 ≤ k ∧ k ≤ 29 ∨ k = 41)) ∨ (b = 1 ∧ 13200 ≤ k) ∨ (6 ≤ b ∧ b ≤ 16) ∨ (18 ≤ b ∧ b ≤ 21)
def QM (u v : MS) : Prop := ∀ b k, ¬ scr b k → jm_i v b k = jm_i u b k ∧ jm_l v b k = jm_l u b k
theorem QM.refl {u : MS} : QM u u := fun _ _ _ => ⟨Eq.refl _, Eq.refl _⟩
theorem QM.trans {u v w : MS} (h1 : QM u v) (h2 : QM v w) : QM u w := fun b k q => ⟨(h2 b k q).1.trans (h1 b k q).1, (h2 b k q).2.trans (h1 b k q).2⟩
theorem QM.s {u v : MS} {b k : Nat} {x : Int32} (h : QM u v) (q : scr b k) : QM u (jm_s v b k x) := fun b2 k2 q2 => by
  refine ⟨?_, (h b2 k2 q2).2⟩
  have : ¬ (b2 = b ∧ k2 = k) := fun e => q2 (by rw [e.1, e.2]; exact q)
  rw [← (h b2 k2 q2).1]; simp [jm_i, jm_s, this]
theorem QM_sl {u v : MS} (h : QM u v) {i : Nat} (hi : i ≤ 3) : sl v i = sl u i := by
  funext k
  unfold sl
  by_cases hk : k < 3300
  · simp only [hk, if_true]; exact (h 1 (3300 * i + k) (by unfold scr; omega)).1
  · simp only [hk, if_false]
def xsc (r : Nat) : Prop := (11 ≤ r ∧ r ≤ 20) ∨ 300 ≤ r
def QX (ow : Nat → Nat) (a0 : Nat) (u v : XS) : Prop :=
  (∀ b k, ¬ xsc (ow b) → ¬ (b = a0 ∧ k = 7) → xi v b k = xi u b k) ∧ (∀ b k, ¬ xsc (ow b) → xl v b k = xl u b k) ∧ ∀ b k, ¬ (ow b = 300 ∧ k = 2) → xr v b k = xr u b k
theorem QX.refl {ow : Nat → Nat} {a0 : Nat} {u : XS} : QX ow a0 u u := ⟨fun _ _ _ _ => Eq.refl _, fun _ _ _ => Eq.refl _, fun _ _ _ => Eq.refl _⟩
theorem QX.trans {ow : Nat → Nat} {a0 : Nat} {u v w : XS} (h1 : QX ow a0 u v) (h2 : QX ow a0 v w) : QX ow a0 u w :=
  ⟨fun b k q q2 => (h2.1 b k q q2).trans (h1.1 b k q q2), fun b k q => (h2.2.1 b k q).trans (h1.2.1 b k q), fun b k q => (h2.2.2 b k q).trans (h1.2.2 b k q)⟩
theorem QX.st {ow : Nat → Nat} {a0 : Nat} {u v : XS} {x : Int32} (h : QX ow a0 u v) : QX ow a0 u (xsi v a0 7 x) := by
  refine ⟨fun b k q q2 => ?_, h.2.1, h.2.2⟩
  rw [← h.1 b k q q2]; simp [xi, xsi, q2]
theorem QX.s {ow : Nat → Nat} {a0 : Nat} {u v : XS} {b k : Nat} {x : Int32} (h : QX ow a0 u v) (q : xsc (ow b)) : QX ow a0 u (xsi v b k x) := by
  refine ⟨fun b2 k2 q2 q3 => ?_, h.2.1, h.2.2⟩
  have : ¬ (b2 = b) := fun e => q2 (by rw [e]; exact q)
  rw [← h.1 b2 k2 q2 q3]; simp [xi, xsi, this]
theorem QX.b {ow : Nat → Nat} {a0 : Nat} {u v : XS} {b : Nat} {x : Option Nat} (h : QX ow a0 u v) (q : ow b = 300) : QX ow a0 u (xsr v b 2 x) := by
  refine ⟨h.1, h.2.1, fun b2 k2 q2 => ?_⟩
  have : ¬ (b2 = b ∧ k2 = 2) := fun e => q2 (by rw [e.1, e.2]; exact ⟨q, Eq.refl _⟩)
  rw [← h.2.2 b2 k2 q2]; simp [xr, xsr, this]
/-- how what is never changed again is carried along -/
def Fz (K : XK) (ow : Nat → Nat) (u : XS) (K2 : XK) (ow2 : Nat → Nat) (v : XS) : Prop :=
  (∀ b, (K b).1 ≠ 0 → K2 b = K b ∧ ow2 b = ow b) ∧ ∀ b k, (K b).1 ≠ 0 → ow b = 100 → xi v b k = xi u b k ∧ xr v b k = xr u b k
theorem rArr.fz {K : XK} {ow : Nat → Nat} {u : XS} {K2 : XK} {ow2 : Nat → Nat} {v : XS} {o f t n : Nat} {g : Nat → Int32} (hF : Fz K ow u K2 ow2 v) (ht : t ≠ 0) (ho : (K o).1 ≠ 0) (ho2 : ow o = 100) (h : rArr K ow u o f t n g) : rArr K2 ow2 v o f t n g := by
  obtain ⟨q, h1, h2, h3, h4⟩ := h
  have hq : (K q).1 ≠ 0 := by rw [h2]; exact ht
  exact ⟨q, by rw [(hF.2 o f ho ho2).2, h1], by rw [(hF.1 q hq).1, h2], by rw [(hF.1 q hq).2, h3], fun k hk => by rw [(hF.2 q k hq h3).1, h4 k hk]⟩
theorem rRule.fz {K : XK} {ow : Nat → Nat} {u : XS} {K2 : XK} {ow2 : Nat → Nat} {v : XS} {o r : Nat} {g : Nat → Int32} (hF : Fz K ow u K2 ow2 v) (h : rRule K ow u o g r) : rRule K2 ow2 v o g r := by
  obtain ⟨la, ca, h1, h2, h3, h4, h5, h6, h7, h8, h9, h10⟩ := h
  have ho : (K o).1 ≠ 0 := by rw [h1]; simp
  have hl : (K la).1 ≠ 0 := by rw [h4]; simp
  have hc : (K ca).1 ≠ 0 := by rw [h7]; simp
  exact ⟨la, ca, by rw [(hF.1 o ho).1, h1], by rw [(hF.1 o ho).2, h2], by rw [(hF.2 o 0 ho h2).2, h3], by rw [(hF.1 la hl).1, h4], by rw [(hF.1 la hl).2, h5], by rw [(hF.2 o 1 ho h2).2, h6], by rw [(hF.1 ca hc).1, h7], by rw [(hF.1 ca hc).2, h8],
    fun k hk => by rw [(hF.2 la k hl h5).1, h9 k hk], fun k hk => by rw [(hF.2 ca k hc h8).1, h10 k hk]⟩
theorem rTab.fz {K : XK} {ow : Nat → Nat} {u : XS} {K2 : XK} {ow2 : Nat → Nat} {v : XS} {t : Nat} {g : Nat → Int32} (hF : Fz K ow u K2 ow2 v) (h : rTab K ow u t g) : rTab K2 ow2 v t g := by
  obtain ⟨ra, h1, h2, h3, h4, h5, h6, h7, h8, h9, h10, h11, h12⟩ := h
  have ht : (K t).1 ≠ 0 := by rw [h1]; simp
  have hr : (K ra).1 ≠ 0 := by rw [h4]; simp
  refine ⟨ra, by rw [(hF.1 t ht).1, h1], by rw [(hF.1 t ht).2, h2], by rw [(hF.2 t 0 ht h2).2, h3], by rw [(hF.1 ra hr).1, h4], by rw [(hF.1 ra hr).2, h5], by rw [(hF.2 t 1 ht h2).1, h6], by rw [(hF.2 t 2 ht h2).1, h7], by rw [(hF.2 t 3 ht h2).1, h8], by rw [(hF.2 t 4 ht h2).1, h9], by rw [(hF.2 t 5 ht h2).1, h10], by rw [(hF.2 t 6 ht h2).1, h11], fun r hr2 => ?_⟩
  obtain ⟨o, h13, h14⟩ := h12 r hr2
  exact ⟨o, by rw [(hF.2 ra r hr h5).2, h13], h14.fz hF⟩
theorem rWri.fz {K : XK} {ow : Nat → Nat} {u : XS} {K2 : XK} {ow2 : Nat → Nat} {v : XS} {w : Nat} {g : Nat → Int32} (hF : Fz K ow u K2 ow2 v) (h : rWri K ow u w g) : rWri K2 ow2 v w g := by
  obtain ⟨h1, h2, h3, h4, h5, h6, h7, h8, h9, h10, h11, h12, h13, h14, h15⟩ := h
  have hw : (K w).1 ≠ 0 := by rw [h1]; simp
  exact ⟨by rw [(hF.1 w hw).1, h1], by rw [(hF.1 w hw).2, h2], h3.fz hF (by decide) hw h2, h4.fz hF (by decide) hw h2, h5.fz hF (by decide) hw h2, h6.fz hF (by decide) hw h2, h7.fz hF (by decide) hw h2, h8.fz hF (by decide) hw h2, h9.fz hF (by decide) hw h2, h10.fz hF (by decide) hw h2, h11.fz hF (by decide) hw h2, h12.fz hF (by decide) hw h2,
    by rw [(hF.2 w 10 hw h2).1, h13], by rw [(hF.2 w 11 hw h2).1, h14], by rw [(hF.2 w 12 hw h2).1, h15]⟩
theorem rHou.fz {K : XK} {ow : Nat → Nat} {u : XS} {K2 : XK} {ow2 : Nat → Nat} {v : XS} {o : Nat} {g : Nat → Int32} (hF : Fz K ow u K2 ow2 v) (e0 : xr v o 0 = xr u o 0) (e1 : xi v o 1 = xi u o 1) (e2 : xr v o 2 = xr u o 2) (h : rHou K ow u o g) : rHou K2 ow2 v o g := by
  obtain ⟨h1, h2, h3, ⟨t, h4, h5⟩, h6, h7⟩ := h
  have ho : (K o).1 ≠ 0 := by rw [h3]; simp
  refine ⟨h1, h2, by rw [(hF.1 o ho).1, h3], ⟨t, by rw [e0, h4], h5.fz hF⟩, by rw [e1, h6], ?_⟩
  rcases h7 with ⟨h8, h9⟩ | ⟨h8, w, h9, h10⟩
  · exact Or.inl ⟨h8, by rw [e2, h9]⟩
  · exact Or.inr ⟨h8, w, by rw [e2, h9], h10.fz hF⟩
theorem Fz.xe {a0 : Nat} {K : XK} {ow : Nat → Nat} {u v : XS} (h0 : ow a0 = 0) (h : QX ow a0 u v) : Fz K ow u K ow v :=
  ⟨fun _ _ => ⟨rfl, rfl⟩, fun b k hb ho => ⟨h.1 b k (by unfold xsc; omega) (fun q => by rw [q.1] at ho; omega), h.2.2 b k (by omega)⟩⟩
/-- a call that only answers keeps what both sides hold -/
theorem Rep.q {a : Nat → Nat} {K : XK} {ow : Nat → Nat} {u v : XS} {m n : MS} (h : Rep a K ow u m) (hM : QM m n) (hX : QX ow (a 0) u v) (hs : xi v (a 0) 7 = jm_i n 0 1) : Rep a K ow v n := by
  obtain ⟨⟨hK, hO, hp, ht⟩, hc, hy, hh, hm, s, as, hs1, hs2⟩ := h
  have o0 : ow (a 0) = 0 := hO 0 (by omega)
  have o1 : ow (a 1) = 1 := hO 1 (by omega)
  have o2 : ow (a 2) = 2 := hO 2 (by omega)
  have o3 : ow (a 3) = 3 := hO 3 (by omega)
  have o4 : ow (a 4) = 4 := hO 4 (by omega)
  have o10 : ow (a 10) = 10 := hO 10 (by omega)
  have hF : Fz K ow u K ow v := Fz.xe o0 hX
  have er : ∀ b k, ow b ≠ 300 → xr v b k = xr u b k := fun b k q => hX.2.2 b k (fun q2 => q q2.1)
  have ei : ∀ k, k ≠ 7 → xi v (a 0) k = xi u (a 0) k := fun k hk => hX.1 (a 0) k (by rw [o0]; unfold xsc; omega) (fun q => hk q.2)
  have e0 : ∀ k, xr v (a 0) k = xr u (a 0) k := fun k => er _ k (by omega)
  have eb : ∀ b k, ¬ xsc (ow b) → b ≠ a 0 → xi v b k = xi u b k := fun b k q q2 => hX.1 b k q (fun q3 => q2 q3.1)
  have n1 : a 1 ≠ a 0 := fun e => by rw [e] at o1; omega
  have n2 : a 2 ≠ a 0 := fun e => by rw [e] at o2; omega
  have n3 : a 3 ≠ a 0 := fun e => by rw [e] at o3; omega
  have n4 : a 4 ≠ a 0 := fun e => by rw [e] at o4; omega
  have em : ∀ b k, ¬ scr b k → jm_i n b k = jm_i m b k := fun b k q => (hM b k q).1
  have el : ∀ b k, ¬ scr b k → jm_l n b k = jm_l m b k := fun b k q => (hM b k q).2
  refine ⟨⟨hK, hO, ?_, ?_⟩, ?_, ?_, ?_, ?_, s, as, ?_, ?_⟩
  · simp only [e0]; exact hp
  · have o5 : ow (a 5) = 5 := hO 5 (by omega)
    have e5 : ∀ k, xr v (a 5) k = xr u (a 5) k := fun k => er _ k (by omega)
    simp only [e5]; exact ht
  · obtain ⟨⟨c1, c2⟩, c3, c4, c5, c6, c7, c8, c9, c10⟩ := hc
    have m9 := em 0 9 (by unfold scr; omega)
    have m15 := em 0 15 (by unfold scr; omega)
    have m16 := em 0 16 (by unfold scr; omega)
    have m36 := em 0 36 (by unfold scr; omega)
    have m37 := em 0 37 (by unfold scr; omega)
    have m42 := em 0 42 (by unfold scr; omega)
    refine ⟨⟨by rw [ei 3 (by omega), m9, c1], by rw [m9]; exact c2⟩, by rw [ei 4 (by omega), m15, c3], by rw [ei 5 (by omega), m16, c4], hs, by rw [hX.2.1 _ _ (by rw [o0]; unfold xsc; omega), el 0 2 (by unfold scr; omega), c6], by rw [hX.2.1 _ _ (by rw [o0]; unfold xsc; omega), el 0 3 (by unfold scr; omega), c7],
      fun k hk => by rw [eb _ k (by rw [o1]; unfold xsc; omega) n1, em 5 k (by unfold scr; omega)]; exact c8 k hk, ?_, ?_⟩
    · rw [ei 19 (by omega), ei 20 (by omega), m36, m37]
      rcases c9 with c9 | ⟨q, q1, q2, q3, q4, q5, q6⟩
      · exact Or.inl c9
      · exact Or.inr ⟨q, q1, q2, q3, q4, q5, fun k hk => by rw [eb _ k (by rw [o3]; unfold xsc; omega) n3, em 17 k (by unfold scr; omega)]; exact q6 k hk⟩
    · rw [ei 26 (by omega), m42]
      rcases c10 with c10 | ⟨q, q1, q2, q3, q4⟩
      · exact Or.inl c10
      · exact Or.inr ⟨q, q1, q2, q3, fun k hk => by rw [eb _ k (by rw [o4]; unfold xsc; omega) n4, em 22 k (by unfold scr; omega)]; exact q4 k hk⟩
  · intro t ht4
    have ot : ow (a (6 + t)) = 6 + t := hO _ (by omega)
    have e6 : xr v (a (6 + t)) 0 = xr u (a (6 + t)) 0 := er _ 0 (by omega)
    have e7 := em 3 t (by unfold scr; omega)
    have e8 := em 2 t (by unfold scr; omega)
    have e9 : ∀ k, jm_l n 4 (60 * t + k) = jm_l m 4 (60 * t + k) := fun k => el 4 _ (by unfold scr; omega)
    unfold rTray
    rw [e6, e7, e8]
    simp only [e9]
    rcases hy t ht4 with q | ⟨q, n2, s2, q1, q2, q3, q4, q5, q6⟩
    · exact Or.inl q
    · have nq : q ≠ a 0 := fun e => by rw [e] at q2; omega
      have eq : ∀ k, xi v q k = xi u q k := fun k => eb q k (by rw [q2]; unfold xsc; omega) nq
      have eq2 : ∀ k, xl v q k = xl u q k := fun k => hX.2.1 q k (by rw [q2]; unfold xsc; omega)
      refine Or.inr ⟨q, n2, s2, q1, q2, q3, q4, q5, ?_⟩
      simp only [eq, eq2]; exact q6
  · rw [QM_sl hM (by omega)]
    exact hh.fz hF (er _ _ (by omega)) (eb _ _ (by rw [o2]; unfold xsc; omega) n2) (er _ _ (by omega))
  · obtain ⟨q, q1, q2, q3, q4⟩ := hm
    refine ⟨q, q1, by rw [ei 12 (by omega), q2], by rw [em 0 45 (by unfold scr; omega), q3], fun i hi => ?_⟩
    rw [er _ i (by omega), QM_sl hM (by omega)]
    rcases q4 i hi with q5 | ⟨o, q5, q6, q7, q8⟩
    · exact Or.inl q5
    · have no : o ≠ a 0 := fun e => by rw [e] at q7; omega
      exact Or.inr ⟨o, q5, q6, q7, fun hin => (q8 hin).fz hF (er _ _ (by omega)) (eb _ _ (by rw [q7]; unfold xsc; omega) no) (er _ _ (by omega))⟩
  · rw [e0, hs1]
  · obtain ⟨r1, r2, r3, r4⟩ := hs2
    have es : ∀ k, k ≠ 2 → xr v s k = xr u s k := fun k hk => hX.2.2 s k (fun q => hk q.2)
    unfold rSet
    rw [es 0 (by omega), es 8 (by omega), es 9 (by omega), es 10 (by omega), es 11 (by omega), es 12 (by omega), es 13 (by omega), es 14 (by omega), es 15 (by omega), es 16 (by omega), es 20 (by omega), es 21 (by omega)]
    exact ⟨r1, r2, r3, r4⟩
