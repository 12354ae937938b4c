/-! More rows: arrays by a Nat index; numbers -/
theorem nI_1' (n : Nat) : nI n + 1 = nI (n + 1) := (nI_succ n).symm
theorem nI_addl (a b : Nat) : nI a + nI b = nI (a + b) := by
  unfold nI; exact (Int32.ofNat_add a b).symm
theorem nI_mull (a b : Nat) : nI a * nI b = nI (a * b) := by
  unfold nI; exact (Int32.ofNat_mul a b).symm
theorem nI_inj {a b : Nat} (ha : a < 2147483648) (hb : b < 2147483648) (h : nI a = nI b) : a = b := by
  have h1 := nI_toInt (n := a) (by omega)
  have h2 := nI_toInt (n := b) (by omega)
  rw [h, h2] at h1
  omega
def bI (b : Bool) : Int32 := if b then 1 else 0
theorem bI_01 (b : Bool) : bI b = 0 ∨ bI b = 1 := by cases b <;> simp [bI]
theorem bI_t : bI true = 1 := rfl
theorem bI_f : bI false = 0 := rfl
theorem bI_eq0 {b : Bool} : bI b = 0 ↔ b = false := by cases b <;> simp [bI]
theorem bI_ne0 {b : Bool} : ¬ bI b = 0 ↔ b = true := by cases b <;> simp [bI]
section RowsZ
variable {d i pc : Nat} {ls st : List am_V} {h : am_H} {K : am_R → am_H → Prop}
theorem rw_eq0B {tgt nx : Nat} {b : Bool} (f : am_fetch i pc = some (in_if c_eq0 tgt nx)) (kt : b = false → Rn d i tgt ls st h K) (kf : b = true → Rn d i nx ls st h K) : Rn d i pc ls (am_i (bI b) :: st) h K :=
  rw_eq0 f (fun c => kt (bI_eq0.mp c)) (fun c => kf (bI_ne0.mp c))
theorem rw_ne0B {tgt nx : Nat} {b : Bool} (f : am_fetch i pc = some (in_if c_ne0 tgt nx)) (kt : b = true → Rn d i tgt ls st h K) (kf : b = false → Rn d i nx ls st h K) : Rn d i pc ls (am_i (bI b) :: st) h K :=
  rw_ne0 f (fun c => kt (bI_ne0.mp c)) (fun c => kf (bI_eq0.mp c))
end RowsZ
section RowsE
variable {d i pc : Nat} {ls st : List am_V} {h : am_H} {K : am_R → am_H → Prop}
theorem rw_xaldE {ts : List Nat} {nx a t u j : Nat} {x : Int32} (f : am_fetch i pc = some (in_xald ts nx)) (hk : hp_K h a = (t, u)) (e : x = nI j) (hj : j < u) (hu : u < 2147483648) (k : Rn d i nx ls (am_i (hp_I h a j) :: st) h K) (ht : ts.contains t = true := by rfl) : Rn d i pc ls (am_i x :: am_r a :: st) h K := by
  subst e
  refine rw_xald f hk (vp_in_nI hj (by omega)) ?_ ht
  rw [nI_clamp (by omega)]; exact k
theorem rw_laldE {nx a u j : Nat} {x : Int32} (f : am_fetch i pc = some (in_lald nx)) (hk : hp_K h a = (4, u)) (e : x = nI j) (hj : j < u) (hu : u < 2147483648) (k : Rn d i nx ls (am_l (hp_L h a j) :: st) h K) : Rn d i pc ls (am_i x :: am_r a :: st) h K := by
  subst e
  refine rw_lald f hk (vp_in_nI hj (by omega)) ?_
  rw [nI_clamp (by omega)]; exact k
theorem rw_iastE {nx a u j : Nat} {x v : Int32} (f : am_fetch i pc = some (in_iast nx)) (hk : hp_K h a = (1, u)) (e : x = nI j) (hj : j < u) (hu : u < 2147483648) (k : Rn d i nx ls st (hp_sI h a j v) K) : Rn d i pc ls (am_i v :: am_i x :: am_r a :: st) h K := by
  subst e
  refine rw_iast f hk (vp_in_nI hj (by omega)) ?_
  rw [nI_clamp (by omega)]; exact k
theorem rw_lastE {nx a u j : Nat} {x : Int32} {v : Int64} (f : am_fetch i pc = some (in_last nx)) (hk : hp_K h a = (4, u)) (e : x = nI j) (hj : j < u) (hu : u < 2147483648) (k : Rn d i nx ls st (hp_sL h a j v) K) : Rn d i pc ls (am_l v :: am_i x :: am_r a :: st) h K := by
  subst e
  refine rw_last f hk (vp_in_nI hj (by omega)) ?_
  rw [nI_clamp (by omega)]; exact k
/-- a boolean array keeps a truth as it is -/
theorem rw_zastE {nx a u j : Nat} {x v : Int32} (f : am_fetch i pc = some (in_bast nx)) (hk : hp_K h a = (3, u)) (e : x = nI j) (hj : j < u) (hu : u < 2147483648) (hv : v = 0 ∨ v = 1) (k : Rn d i nx ls st (hp_sI h a j v) K) : Rn d i pc ls (am_i v :: am_i x :: am_r a :: st) h K := by
  subst e
  refine rw_zast f hk (vp_in_nI hj (by omega)) ?_
  rw [nI_clamp (by omega), show vp_nar .boolean v = v from by rcases hv with q | q <;> (rw [q]; rfl)]; exact k
end RowsE
section RowsB
variable {d i pc : Nat} {ls st : List am_V} {h : am_H} {K : am_R → am_H → Prop}
theorem rw_iadd {nx : Nat} {x y : Int32} (f : am_fetch i pc = some (in_bin f_add nx)) (k : Rn d i nx ls (am_i (x + y) :: st) h K) : Rn d i pc ls (am_i y :: am_i x :: st) h K := rw_bin f k
theorem rw_isub {nx : Nat} {x y : Int32} (f : am_fetch i pc = some (in_bin f_sub nx)) (k : Rn d i nx ls (am_i (x - y) :: st) h K) : Rn d i pc ls (am_i y :: am_i x :: st) h K := rw_bin f k
theorem rw_imul {nx : Nat} {x y : Int32} (f : am_fetch i pc = some (in_bin f_mul nx)) (k : Rn d i nx ls (am_i (x * y) :: st) h K) : Rn d i pc ls (am_i y :: am_i x :: st) h K := rw_bin f k
theorem rw_ishl {nx : Nat} {x y : Int32} (f : am_fetch i pc = some (in_bin f_shl nx)) (k : Rn d i nx ls (am_i (x <<< (y &&& 31)) :: st) h K) : Rn d i pc ls (am_i y :: am_i x :: st) h K := rw_bin f k
theorem rw_ishr {nx : Nat} {x y : Int32} (f : am_fetch i pc = some (in_bin f_shr nx)) (k : Rn d i nx ls (am_i (x >>> (y &&& 31)) :: st) h K) : Rn d i pc ls (am_i y :: am_i x :: st) h K := rw_bin f k
theorem rw_iand {nx : Nat} {x y : Int32} (f : am_fetch i pc = some (in_bin f_and nx)) (k : Rn d i nx ls (am_i (x &&& y) :: st) h K) : Rn d i pc ls (am_i y :: am_i x :: st) h K := rw_bin f k
theorem rw_ior {nx : Nat} {x y : Int32} (f : am_fetch i pc = some (in_bin f_or nx)) (k : Rn d i nx ls (am_i (x ||| y) :: st) h K) : Rn d i pc ls (am_i y :: am_i x :: st) h K := rw_bin f k
theorem rw_ixor {nx : Nat} {x y : Int32} (f : am_fetch i pc = some (in_bin f_xor nx)) (k : Rn d i nx ls (am_i (x ^^^ y) :: st) h K) : Rn d i pc ls (am_i y :: am_i x :: st) h K := rw_bin f k
theorem rw_idiv {nx : Nat} {x y : Int32} (f : am_fetch i pc = some (in_bin0 f_div nx)) (h0 : ¬ y = 0) (k : Rn d i nx ls (am_i (x / y) :: st) h K) : Rn d i pc ls (am_i y :: am_i x :: st) h K := rw_bin0 f h0 k
theorem rw_irem {nx : Nat} {x y : Int32} (f : am_fetch i pc = some (in_bin0 f_rem nx)) (h0 : ¬ y = 0) (k : Rn d i nx ls (am_i (x - x / y * y) :: st) h K) : Rn d i pc ls (am_i y :: am_i x :: st) h K := rw_bin0 f h0 k
theorem rw_ladd {nx : Nat} {x y : Int64} (f : am_fetch i pc = some (in_lbin f_ladd nx)) (k : Rn d i nx ls (am_l (x + y) :: st) h K) : Rn d i pc ls (am_l y :: am_l x :: st) h K := rw_lbin f k
theorem rw_lmul {nx : Nat} {x y : Int64} (f : am_fetch i pc = some (in_lbin f_lmul nx)) (k : Rn d i nx ls (am_l (x * y) :: st) h K) : Rn d i pc ls (am_l y :: am_l x :: st) h K := rw_lbin f k
theorem rw_lor {nx : Nat} {x y : Int64} (f : am_fetch i pc = some (in_lbin f_lor nx)) (k : Rn d i nx ls (am_l (x ||| y) :: st) h K) : Rn d i pc ls (am_l y :: am_l x :: st) h K := rw_lbin f k
theorem rw_ldiv {nx : Nat} {x y : Int64} (f : am_fetch i pc = some (in_lbin0 f_ldiv nx)) (h0 : ¬ y = 0) (k : Rn d i nx ls (am_l (x / y) :: st) h K) : Rn d i pc ls (am_l y :: am_l x :: st) h K := rw_lbin0 f h0 k
theorem rw_lrem {nx : Nat} {x y : Int64} (f : am_fetch i pc = some (in_lbin0 f_lrem nx)) (h0 : ¬ y = 0) (k : Rn d i nx ls (am_l (x - x / y * y) :: st) h K) : Rn d i pc ls (am_l y :: am_l x :: st) h K := rw_lbin0 f h0 k
end RowsB
section Mem
variable {h : am_H} {a k b j : Nat} {v : Int32} {w : Int64} {r : Nat}
theorem sI_same : hp_I (hp_sI h a k v) a k = v := if_pos ⟨rfl, rfl⟩
theorem sI_ne (hn : ¬ (b = a ∧ j = k)) : hp_I (hp_sI h a k v) b j = hp_I h b j := if_neg hn
theorem sI_if : hp_I (hp_sI h a k v) b j = if b = a ∧ j = k then v else hp_I h b j := rfl
theorem sI_K : hp_K (hp_sI h a k v) = hp_K h := rfl
theorem sI_R : hp_R (hp_sI h a k v) = hp_R h := rfl
theorem sI_L : hp_L (hp_sI h a k v) = hp_L h := rfl
theorem sI_n : hp_n (hp_sI h a k v) = hp_n h := rfl
theorem sI_u : hp_u (hp_sI h a k v) = hp_u h := rfl
theorem sR_same : hp_R (hp_sR h a k r) a k = r := if_pos ⟨rfl, rfl⟩
theorem sR_ne (hn : ¬ (b = a ∧ j = k)) : hp_R (hp_sR h a k r) b j = hp_R h b j := if_neg hn
theorem sR_if : hp_R (hp_sR h a k r) b j = if b = a ∧ j = k then r else hp_R h b j := rfl
theorem sL_same : hp_L (hp_sL h a k w) a k = w := if_pos ⟨rfl, rfl⟩
theorem sL_if : hp_L (hp_sL h a k w) b j = if b = a ∧ j = k then w else hp_L h b j := rfl
end Mem
-- memories
theorem up_same {α : Type} {f : Nat → Nat → α} {a k : Nat} {v : α} : am_up f a k v a k = v := if_pos ⟨rfl, rfl⟩
theorem up_ne {α : Type} {f : Nat → Nat → α} {a k b j : Nat} {v : α} (h : ¬ (b = a ∧ j = k)) : am_up f a k v b j = f b j := if_neg h
/-- a set out of a predicate -/
def bs (p : Nat → Bool) : Nat → Int32
  | 0 => 0
  | n + 1 => bs p n ||| (bI (p n) <<< (nI n &&& 31))
theorem bs_t {p : Nat → Bool} {n : Nat} (h : p n = true) : bs p n ||| (1 <<< (nI n &&& 31)) = bs p (n + 1) := by simp only [bs, h, bI, if_true]
theorem bs_f {p : Nat → Bool} {n : Nat} (h : p n = false) : bs p n ||| (0 <<< (nI n &&& 31)) = bs p (n + 1) := by simp only [bs, h, bI, Bool.false_eq_true, if_false]
theorem bs_congr {p q : Nat → Bool} {n : Nat} (h : ∀ b, b < n → p b = q b) : bs p n = bs q n := by
  induction n with
  | zero => rfl
  | succ n ih => simp only [bs]; rw [ih (fun b hb => h b (by omega)), h n (by omega)]
/-- how many of n -/
def cntB (p : Nat → Bool) : Nat → Int32
  | 0 => 0
  | n + 1 => cntB p n + bI (p n)
theorem cntB_congr {p q : Nat → Bool} {n : Nat} (h : ∀ b, b < n → p b = q b) : cntB p n = cntB q n := by
  induction n with
  | zero => rfl
  | succ n ih => simp only [cntB]; rw [ih (fun b hb => h b (by omega)), h n (by omega)]
section RowsS
variable {d i : Nat} {ls st : List am_V} {h : am_H} {K : am_R → am_H → Prop}
theorem rw_sw1 {tb : List (Int32 × Nat)} {df t : Nat} {x k : Int32} (kt : x = k → Rn d i t ls st h K) (kf : ¬ x = k → Rn d i (am_sw tb df x) ls st h K) : Rn d i (am_sw ((k, t) :: tb) df x) ls st h K := by
  unfold am_sw
  by_cases e : x = k
  · rw [if_pos e]; exact kt e
  · rw [if_neg e]; exact kf e
theorem rw_sw0 {df : Nat} {x : Int32} (k : Rn d i df ls st h K) : Rn d i (am_sw [] df x) ls st h K := k
end RowsS
def isIn (v a b : Int32) : Bool := decide (a ≤ v) && decide (v ≤ b)
theorem isIn_nat {v : Int32} {n : Nat} (hn : n < 2147483648) (h : isIn v 0 (nI n - 1) = true) : ∃ j, v = nI j ∧ j < n := by
  unfold isIn at h
  rw [Bool.and_eq_true, decide_eq_true_eq, decide_eq_true_eq] at h
  have h0 : (0 : Int) ≤ v.toInt := by simpa using Int32.le_iff_toInt_le.mp h.1
  have hlt : v.toInt < 2147483648 := by have := v.toInt_lt; omega
  have ev : v = nI v.toInt.toNat := by
    apply Int32.toInt_inj.mp
    rw [nI_toInt (by omega)]
    omega
  refine ⟨v.toInt.toNat, ev, ?_⟩
  cases n with
  | zero =>
    exfalso
    have h2 := Int32.le_iff_toInt_le.mp h.2
    rw [show (nI 0 - 1 : Int32).toInt = -1 by decide] at h2
    omega
  | succ n =>
    have h2 := Int32.le_iff_toInt_le.mp h.2
    rw [nI_pred, nI_toInt (by omega)] at h2
    omega
theorem isIn_of {j n : Nat} (hn : n < 2147483648) (hj : j < n) : isIn (nI j) 0 (nI n - 1) = true := by
  cases n with
  | zero => omega
  | succ n =>
    unfold isIn
    rw [nI_pred, Bool.and_eq_true, decide_eq_true_eq, decide_eq_true_eq]
    exact ⟨nI_pos' (by omega), nI_le (by omega) (by omega)⟩
section Loops
variable {d i : Nat} {K : am_R → am_H → Prop}
/-- a loop that counts up: its locals and heap as functions of the counter -/
theorem rn_for {pc : Nat} {N : Nat} (LS : Nat → List am_V) (Hs : Nat → am_H) (step : ∀ b, b < N → Rn d i pc (LS (b + 1)) [] (Hs (b + 1)) K → Rn d i pc (LS b) [] (Hs b) K) (hx : Rn d i pc (LS N) [] (Hs N) K) : Rn d i pc (LS 0) [] (Hs 0) K := by
  have : ∀ n b, b + n = N → Rn d i pc (LS b) [] (Hs b) K := by
    intro n
    induction n with
    | zero => intro b hb; rw [show b = N by omega]; exact hx
    | succ n ih => intro b hb; exact step b (by omega) (ih (b + 1) (by omega))
  exact this N 0 (by omega)
/-- a loop that counts down from N to 0: at its head with counter n the locals LS n; the body of n+1 goes to n -/
theorem rn_down {pc : Nat} (N : Nat) (LS : Nat → List am_V) (Hs : Nat → am_H) (step : ∀ b, b < N → Rn d i pc (LS b) [] (Hs b) K → Rn d i pc (LS (b + 1)) [] (Hs (b + 1)) K) (hx : Rn d i pc (LS 0) [] (Hs 0) K) : Rn d i pc (LS N) [] (Hs N) K := by
  have : ∀ n, n ≤ N → Rn d i pc (LS n) [] (Hs n) K := by
    intro n
    induction n with
    | zero => intro _; exact hx
    | succ n ih => intro hn; exact step n (by omega) (ih (by omega))
  exact this N (Nat.le_refl _)
end Loops
theorem sd_dt {p : Prop} {dp : Decidable p} (h : p) : decide p = true := decide_eq_true h
theorem sd_df {p : Prop} {dp : Decidable p} (h : ¬ p) : decide p = false := decide_eq_false h
