/-! THE CLASS's world: its object at x, its own cells behind it (x + 1 .. x + 32), the model at x + 33, all else behind x + 84. V: the model's memory. -/
abbrev am_M : Type := Nat → Nat → Int32
/-- kinds of the class's own cells -/
def cw_K (a : Nat) : Option (Nat × Nat) := match a with
  | 0 => some (100, 0)
  | 7 => some (102, 0)
  | 8 => some (1, 10)
  | 9 => some (1, 10)
  | 10 => some (102, 0)
  | 11 => some (1, 10)
  | 12 => some (1, 10)
  | 13 => some (2, 1600)
  | 14 => some (103, 0)
  | 15 => some (130, 0)
  | 16 => some (130, 0)
  | 17 => some (1, 10)
  | 18 => some (104, 0)
  | 19 => some (3, 1024)
  | 20 => some (1, 6)
  | 21 => some (1, 6)
  | 22 => some (4, 100)
  | 23 => some (4, 100)
  | 24 => some (106, 0)
  | 25 => some (1, 6)
  | 26 => some (107, 0)
  | 27 => some (1, 6)
  | 28 => some (130, 0)
  | 29 => some (6, 3)
  | 30 => some (108, 0)
  | 31 => some (108, 0)
  | 32 => some (108, 0)
  | _ => none
/-- links of the class's own cells that never change -/
def cw_R (a k : Nat) : Option Nat := match a, k with
  | 0, 1 => some 7
  | 0, 2 => some 10
  | 0, 3 => some 13
  | 0, 4 => some 14
  | 0, 9 => some 15
  | 0, 10 => some 16
  | 0, 11 => some 17
  | 0, 13 => some 18
  | 0, 14 => some 22
  | 0, 15 => some 23
  | 0, 16 => some 24
  | 0, 17 => some 26
  | 0, 18 => some 28
  | 0, 19 => some 29
  | 7, 0 => some 8
  | 7, 1 => some 9
  | 10, 0 => some 11
  | 10, 1 => some 12
  | 18, 0 => some 19
  | 18, 1 => some 20
  | 18, 2 => some 21
  | 18, 9 => some 0
  | 24, 0 => some 25
  | 24, 1 => some 0
  | 24, 4 => some 0
  | 26, 0 => some 27
  | 26, 1 => some 0
  | 26, 3 => some 0
  | 29, 0 => some 30
  | 29, 1 => some 31
  | 29, 2 => some 32
  | _, _ => none
def CW (h : am_H) (x : Nat) : Prop := ¬ x = 0 ∧ (∀ a t u, cw_K a = some (t, u) → hp_K h (x + a) = (t, u)) ∧ (∀ a k b, cw_R a k = some b → hp_R h (x + a) k = x + b) ∧ Al h ∧ (∀ b, x + 33 ≤ b → b ≤ x + 84 → (hp_K h b).1 = 1 ∨ (hp_K h b).1 = 3 ∨ (hp_K h b).1 = 4 ∨ (hp_K h b).1 = 109)
theorem CW.k0 {h : am_H} {x : Nat} (hW : CW h x) : hp_K h x = (100, 0) := hW.2.1 0 _ _ rfl
theorem CW.k {h : am_H} {x : Nat} (hW : CW h x) {a t u : Nat} (e : cw_K a = some (t, u)) : hp_K h (x + a) = (t, u) := hW.2.1 a t u e
theorem CW.r {h : am_H} {x : Nat} (hW : CW h x) {a k b : Nat} (e : cw_R a k = some b) : hp_R h (x + a) k = x + b := hW.2.2.1 a k b e
theorem CW.r0 {h : am_H} {x : Nat} (hW : CW h x) {k b : Nat} (e : cw_R 0 k = some b) : hp_R h x k = x + b := hW.2.2.1 0 k b e
theorem CW.al {h : am_H} {x : Nat} (hW : CW h x) : Al h := hW.2.2.2.1
/-- a cell of no kind that the model has is none of the model's -/
theorem CW.om {h : am_H} {x : Nat} (hW : CW h x) {b : Nat} (hk : ¬ ((hp_K h b).1 = 1 ∨ (hp_K h b).1 = 3 ∨ (hp_K h b).1 = 4 ∨ (hp_K h b).1 = 109)) : b < x + 33 ∨ x + 84 < b := by
  by_cases e : x + 33 ≤ b ∧ b ≤ x + 84
  · exact absurd (hW.2.2.2.2 b e.1 e.2) hk
  · omega
/-- a list by what the heap says of it -/
abbrev arr (h : am_H) (l : Nat) : Nat := hp_R h l 1
abbrev el (h : am_H) (l i : Nat) : Nat := hp_R h (hp_R h l 1) i
abbrev lcap (h : am_H) (l : Nat) : Nat := (hp_K h (hp_R h l 1)).2
def LST (h : am_H) (l n : Nat) : Prop := AL h l n (arr h l) (lcap h l) ∧ ¬ l = 0
def CMan (h : am_H) (V : am_M) (a i : Nat) : Prop := hp_K h a = (112, 0) ∧ hp_I h a 1 = V 15 i ∧ hp_I h a 2 = V 16 i ∧ hp_I h a 3 = V 17 i
def CDeed (h : am_H) (V : am_M) (a i : Nat) : Prop := hp_K h a = (113, 0) ∧ hp_I h a 1 = V 18 i
def COath (h : am_H) (V : am_M) (a i : Nat) : Prop := ((hp_K h a = (115, 0) ∧ V 33 i = 1) ∨ (hp_K h a = (116, 0) ∧ V 33 i = 0)) ∧ hp_I h a 0 = V 26 i ∧ hp_I h a 1 = V 27 i ∧ hp_I h a 2 = V 28 i ∧ hp_I h a 3 = V 29 i ∧ hp_I h a 4 = V 30 i ∧ hp_I h a 5 = V 31 i
/-- steps of a formula: sort and number -/
abbrev am_S : Type := List (Int32 × Int32)
/-- a tree on the heap, at most n deep, and its steps: 0 a number, 1 what is asked, 2 not, 3 a sign -/
def Tree (h : am_H) : Nat → Nat → am_S → Prop
  | 0, _, _ => False
  | n + 1, a, c => (hp_K h a = (119, 0) ∧ c = [(0, hp_I h a 0)]) ∨ (hp_K h a = (120, 0) ∧ (∃ w, w < 4 ∧ hp_I h a 0 = nI w) ∧ c = [(1, hp_I h a 0)]) ∨ (hp_K h a = (118, 0) ∧ ∃ c1, Tree h n (hp_R h a 0) c1 ∧ c = c1 ++ [(2, 0)]) ∨ (hp_K h a = (121, 0) ∧ ∃ c1 c2, Tree h n (hp_R h a 1) c1 ∧ Tree h n (hp_R h a 2) c2 ∧ c = c1 ++ c2 ++ [(3, hp_I h a 0)])
/-- the steps that the model has -/
def stepsOf (V : am_M) (n : Nat) : am_S := (List.range n).map (fun k => (V 5 k, V 6 k))
def CWear (h : am_H) (V : am_M) (a : Nat) : Prop := (a = 0 ∧ V 0 66 = 0) ∨ (¬ a = 0 ∧ V 0 66 = 1 ∧ ∃ n, V 0 18 = nI n ∧ n ≤ 320 ∧ Tree h 320 a (stepsOf V n))
/-- places of the model's memory that a regiment rests on -/
def regA (a j : Nat) : Bool := ([15, 16, 17, 18, 19, 26, 27, 28, 29, 30, 31, 33, 5, 6] : List Nat).contains a || (Nat.beq a 0 && ([56, 57, 58, 59, 60, 61, 66, 18, 21] : List Nat).contains j)
def CReg (h : am_H) (V : am_M) (x r nM nD nB : Nat) : Prop :=
  (hp_K h r = (101, 0) ∧ ¬ r = 0) ∧
  (LST h (hp_R h r 0) nM ∧ ∀ i, i < nM → CMan h V (el h (hp_R h r 0) i) i) ∧
  (LST h (hp_R h r 1) nD ∧ ∀ i, i < nD → CDeed h V (el h (hp_R h r 1) i) i) ∧
  (LST h (hp_R h r 2) nB ∧ ∀ i, i < nB → COath h V (el h (hp_R h r 2) i) i) ∧
  ((hp_K h (hp_R h r 3) = (1, 36) ∧ ((hp_R h r 3 < x + 7 ∨ x + 84 < hp_R h r 3) ∧ (hp_R h r 13 < x + 7 ∨ x + 84 < hp_R h r 13))) ∧ ∀ i j, i < nM → j < nM → hp_I h (hp_R h r 3) (6 * i + j) = V 19 (6 * i + j)) ∧
  (hp_K h (hp_R h r 13) = (1, 4) ∧ CWear h V (hp_R h r 4)) ∧
  hp_I h r 5 = V 0 59 ∧ hp_I h r 6 = V 0 21 ∧ hp_I h r 7 = V 0 60 ∧ hp_I h r 8 = V 0 61
def CNow (h : am_H) (V : am_M) (x : Nat) : Prop := (∀ b, b < 10 → hp_I h (x + 8) b = V 34 b ∧ hp_I h (x + 9) b = V 34 (10 + b)) ∧ hp_I h (x + 7) 2 = V 34 20 ∧ hp_I h (x + 7) 3 = V 34 21 ∧ hp_I h (x + 7) 4 = V 34 22
/-- a day that is kept: its picture f -/
def CDay (h : am_H) (x a : Nat) (f : Nat → Int32) : Prop := (hp_K h a = (102, 0) ∧ hp_K h (hp_R h a 0) = (1, 10) ∧ hp_K h (hp_R h a 1) = (1, 10) ∧ x + 84 < a ∧ x + 84 < hp_R h a 0 ∧ x + 84 < hp_R h a 1) ∧ (∀ b, b < 10 → hp_I h (hp_R h a 0) b = f b ∧ hp_I h (hp_R h a 1) b = f (10 + b)) ∧ hp_I h a 2 = f 20 ∧ hp_I h a 3 = f 21 ∧ hp_I h a 4 = f 22
/-- the Kept of the model's row i: acts, then undone from its end on -/
def kk (h : am_H) (x nA nU i : Nat) : Nat := if i < nA then el h (x + 15) i else el h (x + 16) (nA + nU - 1 - i)
def CAct (h : am_H) (V : am_M) (x nA nU : Nat) : Prop := LST h (x + 15) nA ∧ LST h (x + 16) nU ∧ (∀ i, i < nA + nU → hp_K h (kk h x nA nU i) = (108, 0) ∧ x + 84 < kk h x nA nU i ∧ CDay h x (hp_R h (kk h x nA nU i) 0) (fun j => V 35 (24 * i + j))) ∧ (∀ i j, i < nA + nU → j < nA + nU → kk h x nA nU i = kk h x nA nU j → i = j)
def CTug (h : am_H) (V : am_M) (x nT : Nat) : Prop := LST h (x + 28) nT ∧ (∀ i, i < nT → hp_K h (el h (x + 28) i) = (122, 0) ∧ hp_I h (el h (x + 28) i) 0 = V 45 i ∧ hp_I h (el h (x + 28) i) 1 = V 46 i ∧ hp_I h (el h (x + 28) i) 2 = V 47 i ∧ hp_I h (el h (x + 28) i) 3 = V 49 i ∧ hp_I h (el h (x + 28) i) 4 = V 48 i) ∧ (∀ i j, i < nT → j < nT → el h (x + 28) i = el h (x + 28) j → i = j)
def CBox (h : am_H) (V : am_M) (x : Nat) : Prop := ∀ b, b < 3 → (hp_R h (x + (30 + b)) 0 = 0 ∧ V 50 b = 0) ∨ (¬ hp_R h (x + (30 + b)) 0 = 0 ∧ V 50 b = 1 ∧ CDay h x (hp_R h (x + (30 + b)) 0) (fun j => V 51 (24 * b + j)))
def CInt (h : am_H) (V : am_M) (x nL : Nat) : Prop := (hp_I h x 5 = V 0 1 ∧ hp_I h x 6 = V 0 94 ∧ hp_I h x 7 = V 0 2 ∧ hp_I h x 8 = V 0 3 ∧ hp_I h x 12 = nI nL ∧ V 0 85 = nI nL) ∧ (∀ j, j < nL → hp_I h (x + 17) j = V 42 j) ∧ (∀ j, j < 1600 → hp_I h (x + 13) j &&& 255 = V 1 j)
/-- lists of the class that are apart -/
def isL (h : am_H) (x r l : Nat) : Prop := l = x + 15 ∨ l = x + 16 ∨ l = x + 28 ∨ l = hp_R h r 0 ∨ l = hp_R h r 1 ∨ l = hp_R h r 2
def CSep (h : am_H) (x r : Nat) : Prop := (∀ l l', isL h x r l → isL h x r l' → (hp_K h (arr h l)).1 = 5 → arr h l = arr h l' → l = l') ∧ (∀ k, k < 3 → ¬ hp_R h r k = x + 15 ∧ ¬ hp_R h r k = x + 16 ∧ ¬ hp_R h r k = x + 28)
/-- a day's picture is as it must be -/
def okDay (f : Nat → Int32) : Prop := ∀ b, b < 10 → ∃ t, t ≤ 99 ∧ f (10 + b) = nI t
/-- steps that are a formula, at most n deep -/
def PF : Nat → am_S → Prop
  | 0, _ => False
  | n + 1, c => (∃ v, c = [(0, v)]) ∨ (∃ w, w < 4 ∧ c = [(1, nI w)]) ∨ (∃ c1, PF n c1 ∧ c = c1 ++ [(2, 0)]) ∨ (∃ c1 c2 s, PF n c1 ∧ PF n c2 ∧ c = c1 ++ c2 ++ [(3, s)])
def leaves : am_S → Nat
  | [] => 0
  | s :: c => (if s.1 = 0 ∨ s.1 = 1 then 1 else 0) + leaves c
def okWear (V : am_M) : Prop := V 0 66 = 0 ∨ (V 0 66 = 1 ∧ ∃ n, V 0 18 = nI n ∧ n ≤ 320 ∧ PF 320 (stepsOf V n) ∧ leaves (stepsOf V n) ≤ 60)
/-- what holds of the model's memory -/
def WB (V : am_M) (nM nD nB : Nat) : Prop :=
  (V 0 56 = nI nM ∧ nM ≤ 6 ∧ V 0 57 = nI nD ∧ nD ≤ 6 ∧ V 0 58 = nI nB ∧ nB ≤ 10) ∧
  (∀ b, b < nB → (∃ a, a < nM ∧ V 26 b = nI a) ∧ (∃ a, a < nM ∧ V 27 b = nI a) ∧ (∃ a, a < nD ∧ V 28 b = nI a) ∧ (∃ t, t ≤ 99 ∧ V 30 b = nI t) ∧ (V 31 b = -1 ∨ ∃ a, a < b ∧ V 31 b = nI a) ∧ (V 33 b = 0 ∨ V 33 b = 1)) ∧
  ((∃ t, 0 < t ∧ t ≤ 24 ∧ V 0 60 = nI t) ∧ (∃ t, t ≤ 100 ∧ V 0 61 = nI t)) ∧ (∀ i, i < nD → ∃ t, 0 < t ∧ t ≤ 24 ∧ V 18 i = nI t) ∧
  (∀ a b, a < nM → b < nM → V 19 (6 * a + a) = -100 ∧ V 19 (6 * a + b) = V 19 (6 * b + a)) ∧ okWear V
def WS (V : am_M) (nA nU nT nL : Nat) : Prop :=
  (V 0 69 = nI nA ∧ V 0 70 = nI nU ∧ nA + nU ≤ 40 ∧ V 0 93 = nI nT ∧ nT ≤ 30 ∧ V 0 85 = nI nL ∧ nL ≤ 10) ∧
  (∃ t, V 0 1 = nI t ∧ t ≤ 1600) ∧
  okDay (V 34) ∧ (∀ i, i < nA + nU → okDay (fun j => V 35 (24 * i + j))) ∧ (∀ b, b < 3 → V 50 b = 1 → okDay (fun j => V 51 (24 * b + j))) ∧
  (∀ j, j < nT → (V 49 j = 0 ∨ V 49 j = 1))
def WF (V : am_M) (nM nD nB nA nU nT nL : Nat) : Prop := WB V nM nD nB ∧ WS V nA nU nT nL
/-- the class's heap and the model's memory tell the same -/
def CR (h : am_H) (V : am_M) (x r nM nD nB nA nU nT nL : Nat) : Prop := CW h x ∧ hp_R h x 0 = r ∧ CReg h V x r nM nD nB ∧ CNow h V x ∧ CAct h V x nA nU ∧ CTug h V x nT ∧ CBox h V x ∧ CInt h V x nL ∧ CSep h x r ∧ WF V nM nD nB nA nU nT nL
