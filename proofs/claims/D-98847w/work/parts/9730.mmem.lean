/-! THE MODEL's memory in a normal form: mh h m V is the heap h with the model's ints V -/
def mh (h : am_H) (m : Nat) (V : am_M) : am_H := (fun b => if m ≤ b ∧ b ≤ m + 51 then V (b - m) else h.1 b, h.2)
/-- the model's ints (beyond its cells: nought) -/
def nV (h : am_H) (m : Nat) : am_M := fun a j => if a ≤ 51 then hp_I h (m + a) j else 0
/-- the place of the field that holds the array a -/
def mi_tbl (a : Nat) : Nat := match a with
  | 1 => 0
  | 2 => 10
  | 3 => 11
  | 4 => 12
  | 5 => 13
  | 6 => 14
  | 7 => 15
  | 8 => 16
  | 9 => 24
  | 10 => 25
  | 11 => 26
  | 12 => 27
  | 13 => 28
  | 14 => 29
  | 15 => 30
  | 16 => 31
  | 17 => 32
  | 18 => 33
  | 19 => 34
  | 20 => 35
  | 21 => 36
  | 22 => 37
  | 23 => 38
  | 24 => 39
  | 25 => 40
  | 26 => 41
  | 27 => 42
  | 28 => 43
  | 29 => 44
  | 30 => 45
  | 31 => 46
  | 32 => 47
  | 33 => 48
  | 34 => 67
  | 35 => 68
  | 36 => 71
  | 37 => 72
  | 38 => 75
  | 39 => 76
  | 40 => 77
  | 41 => 78
  | 42 => 84
  | 43 => 86
  | 44 => 87
  | 45 => 88
  | 46 => 89
  | 47 => 90
  | 48 => 91
  | 49 => 92
  | 50 => 95
  | 51 => 96
  | _ => 0
def mk_tbl (a : Nat) : Option (Nat × Nat) := match mw_tbl (mi_tbl a) with
  | some (b, t, u) => cond (Nat.beq b a) (some (t, u)) none
  | none => none
theorem mk_all : ∀ k, k < 97 → (match mw_tbl k with | some (a, t, u) => Nat.ble a 51 && Nat.ble u 1600 && Nat.blt 0 a | none => true) = true := by decide +kernel
theorem mi_lt (a : Nat) : mi_tbl a < 97 := by
  unfold mi_tbl
  split <;> omega
theorem mkt_of {a t u : Nat} (e : mk_tbl a = some (t, u)) : mw_tbl (mi_tbl a) = some (a, t, u) ∧ a ≤ 51 ∧ u ≤ 1600 ∧ 0 < a := by
  unfold mk_tbl at e
  have q := mk_all (mi_tbl a) (mi_lt a)
  cases hq : mw_tbl (mi_tbl a) with
  | none => rw [hq] at e; cases e
  | some z =>
    obtain ⟨b, t', u'⟩ := z
    rw [hq] at e q
    dsimp only at e q
    cases hb : Nat.beq b a with
    | false => rw [hb] at e; cases e
    | true =>
      rw [hb] at e
      have := Nat.eq_of_beq_eq_true hb
      subst this
      cases e
      rw [Bool.and_eq_true, Bool.and_eq_true] at q
      exact ⟨rfl, Nat.le_of_ble_eq_true q.1.1, Nat.le_of_ble_eq_true q.1.2, by have := q.2; rw [Nat.blt_eq] at this; exact this⟩
section MMem
variable {d i pc : Nat} {ls st : List am_V} {h : am_H} {m : Nat} {V : am_M} {K : am_R → am_H → Prop}
theorem MW.k (hW : MW h m) {a t u : Nat} (e : mk_tbl a = some (t, u)) : hp_K h (m + a) = (t, u) := (hW.2.2 _ _ _ _ (mkt_of e).1).2
theorem mh_I0 : hp_I (mh h m V) m = V 0 := by
  show (if m ≤ m ∧ m ≤ m + 51 then V (m - m) else h.1 m) = V 0
  rw [if_pos (by omega), Nat.sub_self]
theorem mh_Ia {a : Nat} (ha : a ≤ 51) : hp_I (mh h m V) (m + a) = V a := by
  show (if m ≤ m + a ∧ m + a ≤ m + 51 then V (m + a - m) else h.1 (m + a)) = V a
  rw [if_pos (by omega), Nat.add_sub_cancel_left]
theorem mh_sa {a j : Nat} {v : Int32} (ha : a ≤ 51) : hp_sI (mh h m V) (m + a) j v = mh h m (am_up V a j v) := by
  unfold mh hp_sI am_up
  refine Prod.ext ?_ rfl
  funext b i
  dsimp only
  by_cases e : b = m + a ∧ i = j
  · rw [if_pos e, if_pos (by omega), if_pos ⟨by omega, e.2⟩]
  · rw [if_neg e]
    by_cases e2 : m ≤ b ∧ b ≤ m + 51
    · rw [if_pos e2, if_pos e2, if_neg (fun z => e ⟨by omega, z.2⟩)]
    · rw [if_neg e2, if_neg e2]
theorem mh_s0 {j : Nat} {v : Int32} : hp_sI (mh h m V) m j v = mh h m (am_up V 0 j v) := mh_sa (a := 0) (by omega)
theorem mh_self : mh h m (nV h m) = h := by
  unfold mh nV
  refine Prod.ext ?_ rfl
  funext b i
  dsimp only
  by_cases e2 : m ≤ b ∧ b ≤ m + 51
  · rw [if_pos e2, if_pos (by omega), show m + (b - m) = b by omega]
  · rw [if_neg e2]
abbrev mS (m : Nat) : Nat → Prop := fun b => m ≤ b ∧ b ≤ m + 51
theorem mh_on : On (mS m) h (mh h m V) := ⟨rfl, fun b hb => if_neg hb⟩
theorem mh_of {h' : am_H} (on : On (mS m) h h') : h' = mh h m (nV h' m) := by
  unfold mh nV
  refine Prod.ext ?_ on.1
  funext b i
  dsimp only
  by_cases e2 : m ≤ b ∧ b ≤ m + 51
  · rw [if_pos e2, if_pos (by omega), show m + (b - m) = b by omega]
  · rw [if_neg e2]; exact congrFun (on.2 b e2) i
theorem mh_mh {W : am_M} : mh (mh h m V) m W = mh h m W := by
  unfold mh
  refine Prod.ext ?_ rfl
  funext b
  dsimp only
  by_cases e2 : m ≤ b ∧ b ≤ m + 51
  · rw [if_pos e2, if_pos e2]
  · rw [if_neg e2, if_neg e2, if_neg e2]
theorem mh_ext {W : am_M} (e : ∀ a j, a ≤ 51 → W a j = V a j) : mh h m W = mh h m V := by
  unfold mh
  refine Prod.ext ?_ rfl
  funext b j
  dsimp only
  by_cases e2 : m ≤ b ∧ b ≤ m + 51
  · rw [if_pos e2, if_pos e2, e _ _ (by omega)]
  · rw [if_neg e2, if_neg e2]
theorem nV_mh {a j : Nat} (ha : a ≤ 51) : nV (mh h m V) m a j = V a j := by
  unfold nV
  rw [if_pos ha, mh_Ia ha]
-- rows
theorem rm_getI {g nx : Nat} (f : am_fetch i pc = some (in_getI [109] g nx)) (hW : MW h m) (k : Rn d i nx ls (am_i (V 0 g) :: st) (mh h m V) K) : Rn d i pc ls (am_r m :: st) (mh h m V) K :=
  rw_getI (h := mh h m V) f hW.1 (by rw [mh_I0]; exact k)
theorem rm_putI {g nx : Nat} {x : Int32} (f : am_fetch i pc = some (in_putI [109] g nx)) (hW : MW h m) (k : Rn d i nx ls st (mh h m (am_up V 0 g x)) K) : Rn d i pc ls (am_i x :: am_r m :: st) (mh h m V) K :=
  rw_putI (h := mh h m V) f hW.1 (by rw [mh_s0]; exact k)
theorem rm_putZ {g nx : Nat} {x : Int32} (f : am_fetch i pc = some (in_putZ [109] g nx)) (hW : MW h m) (hx : x = 0 ∨ x = 1) (k : Rn d i nx ls st (mh h m (am_up V 0 g x)) K) : Rn d i pc ls (am_i x :: am_r m :: st) (mh h m V) K :=
  rw_putZ (h := mh h m V) f hW.1 hx (by rw [mh_s0]; exact k)
theorem rm_getR {g nx a t u : Nat} (f : am_fetch i pc = some (in_getR [109] g nx)) (hW : MW h m) (e : mw_tbl g = some (a, t, u)) (k : Rn d i nx ls (am_r (m + a) :: st) (mh h m V) K) : Rn d i pc ls (am_r m :: st) (mh h m V) K :=
  rw_getR (h := mh h m V) f hW.1 (hW.2.2 _ _ _ _ e).1 k
theorem rm_xald {ts : List Nat} {nx a t u j : Nat} {x : Int32} (f : am_fetch i pc = some (in_xald ts nx)) (hW : MW h m) (e : mk_tbl a = some (t, u)) (ej : x = nI j) (hj : j < u) (k : Rn d i nx ls (am_i (V a j) :: st) (mh h m V) K) (ht : ts.contains t = true := by rfl) : Rn d i pc ls (am_i x :: am_r (m + a) :: st) (mh h m V) K :=
  rw_xaldE (h := mh h m V) f (hW.k e) ej hj (by have := (mkt_of e).2.2.1; omega) (by rw [mh_Ia (mkt_of e).2.1]; exact k) ht
theorem rm_iast {nx a u j : Nat} {x v : Int32} (f : am_fetch i pc = some (in_iast nx)) (hW : MW h m) (e : mk_tbl a = some (1, u)) (ej : x = nI j) (hj : j < u) (k : Rn d i nx ls st (mh h m (am_up V a j v)) K) : Rn d i pc ls (am_i v :: am_i x :: am_r (m + a) :: st) (mh h m V) K :=
  rw_iastE (h := mh h m V) f (hW.k e) ej hj (by have := (mkt_of e).2.2.1; omega) (by rw [mh_sa (mkt_of e).2.1]; exact k)
theorem rm_zast {nx a u j : Nat} {x v : Int32} (f : am_fetch i pc = some (in_bast nx)) (hW : MW h m) (e : mk_tbl a = some (3, u)) (ej : x = nI j) (hj : j < u) (hv : v = 0 ∨ v = 1) (k : Rn d i nx ls st (mh h m (am_up V a j v)) K) : Rn d i pc ls (am_i v :: am_i x :: am_r (m + a) :: st) (mh h m V) K :=
  rw_zastE (h := mh h m V) f (hW.k e) ej hj (by have := (mkt_of e).2.2.1; omega) hv (by rw [mh_sa (mkt_of e).2.1]; exact k)
theorem rm_getL {g nx : Nat} (f : am_fetch i pc = some (in_getL [109] g nx)) (hW : MW h m) (k : Rn d i nx ls (am_l (hp_L h m g) :: st) (mh h m V) K) : Rn d i pc ls (am_r m :: st) (mh h m V) K :=
  rw_getL (h := mh h m V) f hW.1 k
theorem rm_putL {g nx : Nat} {x : Int64} (f : am_fetch i pc = some (in_putL [109] g nx)) (hW : MW h m) (k : Rn d i nx ls st (mh (hp_sL h m g x) m V) K) : Rn d i pc ls (am_l x :: am_r m :: st) (mh h m V) K :=
  rw_putL (h := mh h m V) f hW.1 k
theorem rm_lald {nx a u j : Nat} {x : Int32} (f : am_fetch i pc = some (in_lald nx)) (hW : MW h m) (e : mk_tbl a = some (4, u)) (ej : x = nI j) (hj : j < u) (k : Rn d i nx ls (am_l (hp_L h (m + a) j) :: st) (mh h m V) K) : Rn d i pc ls (am_i x :: am_r (m + a) :: st) (mh h m V) K :=
  rw_laldE (h := mh h m V) f (hW.k e) ej hj (by have := (mkt_of e).2.2.1; omega) k
theorem rm_last {nx a u j : Nat} {x : Int32} {v : Int64} (f : am_fetch i pc = some (in_last nx)) (hW : MW h m) (e : mk_tbl a = some (4, u)) (ej : x = nI j) (hj : j < u) (k : Rn d i nx ls st (mh (hp_sL h (m + a) j v) m V) K) : Rn d i pc ls (am_l v :: am_i x :: am_r (m + a) :: st) (mh h m V) K :=
  rw_lastE (h := mh h m V) f (hW.k e) ej hj (by have := (mkt_of e).2.2.1; omega) k
end MMem
-- memories
theorem up_row {α : Type} {f : Nat → Nat → α} {a k b : Nat} {v : α} (hb : ¬ b = a) : am_up f a k v b = f b := funext fun j => if_neg (fun z => hb z.1)
theorem up_at {α : Type} {f : Nat → Nat → α} {a k j : Nat} {v : α} : am_up f a k v a j = if j = k then v else f a j := by
  unfold am_up
  by_cases e : j = k
  · rw [if_pos ⟨rfl, e⟩, if_pos e]
  · rw [if_neg (fun z => e z.2), if_neg e]
theorem cpy_row {α : Type} {f : Nat → Nat → α} {a p b q n c : Nat} (hc : ¬ c = b) : am_cpy f a p b q n c = f c := funext fun j => if_neg (fun z => hc z.1)
theorem cpy_up {α : Type} {f : Nat → Nat → α} {a p b q n i : Nat} {x : α} (hap : ¬ a = b ∨ q ≤ p) (hi : i = q + n) (hx : x = am_cpy f a p b q n a (p + n)) : am_up (am_cpy f a p b q n) b i x = am_cpy f a p b q (n + 1) := by
  subst hi; subst hx
  rw [cpy_rd (by omega)]
  funext c j
  unfold am_up am_cpy
  by_cases e : c = b ∧ j = q + n
  · rw [if_pos e, if_pos ⟨e.1, by omega, by omega⟩, show p + (j - q) = p + n by omega]
  · rw [if_neg e]
    by_cases e2 : c = b ∧ q ≤ j ∧ j < q + n
    · rw [if_pos e2, if_pos ⟨e2.1, e2.2.1, by omega⟩]
    · rw [if_neg e2, if_neg (by intro z; apply e2; refine ⟨z.1, z.2.1, ?_⟩; have := z.2.2; by_cases e3 : j = q + n; exact absurd ⟨z.1, e3⟩ e; omega)]
-- small contracts over V
section MSmall
variable {d : Nat} {h : am_H} {m : Nat} {V : am_M} {k : Int32 → am_H → Prop}
theorem m_isMan (hW : MW h m) {v : Int32} (hk : k (bI (isIn v 0 (V 0 56 - 1))) (mh h m V)) : Rn (d + 1) n_X9_isMan 0 [am_r m, am_i v] [] (mh h m V) (kI k) := M_isMan (h := mh h m V) hW (by rw [mh_I0]; exact hk)
theorem m_isDeed (hW : MW h m) {v : Int32} (hk : k (bI (isIn v 0 (V 0 57 - 1))) (mh h m V)) : Rn (d + 1) n_X9_isDeed 0 [am_r m, am_i v] [] (mh h m V) (kI k) := M_isDeed (h := mh h m V) hW (by rw [mh_I0]; exact hk)
theorem m_isButton (hW : MW h m) {v : Int32} (hk : k (bI (isIn v 0 (V 0 58 - 1))) (mh h m V)) : Rn (d + 1) n_X9_isButton 0 [am_r m, am_i v] [] (mh h m V) (kI k) := M_isButton (h := mh h m V) hW (by rw [mh_I0]; exact hk)
theorem m_isOn (hW : MW h m) {b : Nat} (hb : b < 24) (hk : k (bI (decide (V 34 b = 0))) (mh h m V)) : Rn d n_X9_isOn 0 [am_r m, am_i (nI b)] [] (mh h m V) (kI k) := M_isOn (h := mh h m V) hW hb (by rw [mh_Ia (by omega)]; exact hk)
end MSmall
