/-! THE SMALL MACHINE. A pure machine over typed memories: ints, longs, references (0: null; a: the cell a - 1), kinds. Its runs are shown to be the JVM's runs once (the part 'sound'); methods are then proved over it alone. -/
abbrev am_V : Type := Int32 ⊕ Int64 ⊕ Nat ⊕ Unit
abbrev am_i (x : Int32) : am_V := .inl x
abbrev am_l (x : Int64) : am_V := .inr (.inl x)
abbrev am_r (x : Nat) : am_V := .inr (.inr (.inl x))
abbrev am_u : am_V := .inr (.inr (.inr ()))
/-- ints, longs, references by cell and place; kinds (tag, length); the next cell; slots used -/
abbrev am_H : Type := (Nat → Nat → Int32) × (Nat → Nat → Int64) × (Nat → Nat → Nat) × (Nat → Nat × Nat) × Nat × Nat
abbrev hp_I (h : am_H) : Nat → Nat → Int32 := h.1
abbrev hp_L (h : am_H) : Nat → Nat → Int64 := h.2.1
abbrev hp_R (h : am_H) : Nat → Nat → Nat := h.2.2.1
abbrev hp_K (h : am_H) : Nat → Nat × Nat := h.2.2.2.1
abbrev hp_n (h : am_H) : Nat := h.2.2.2.2.1
abbrev hp_u (h : am_H) : Nat := h.2.2.2.2.2
def am_up {α : Type} (f : Nat → Nat → α) (a k : Nat) (v : α) : Nat → Nat → α := fun b j => if b = a ∧ j = k then v else f b j
def am_zap {α : Type} (f : Nat → Nat → α) (a : Nat) (v : α) : Nat → Nat → α := fun b j => if b = a then v else f b j
def am_kd (f : Nat → Nat × Nat) (a : Nat) (v : Nat × Nat) : Nat → Nat × Nat := fun b => if b = a then v else f b
def hp_sI (h : am_H) (a k : Nat) (v : Int32) : am_H := (am_up h.1 a k v, h.2)
def hp_sL (h : am_H) (a k : Nat) (v : Int64) : am_H := (h.1, am_up h.2.1 a k v, h.2.2)
def hp_sR (h : am_H) (a k : Nat) (v : Nat) : am_H := (h.1, h.2.1, am_up h.2.2.1 a k v, h.2.2.2)
/-- a new cell: kind (t, n), m slots -/
def hp_new (h : am_H) (t n m : Nat) : am_H := (am_zap h.1 (hp_n h) 0, am_zap h.2.1 (hp_n h) 0, am_zap h.2.2.1 (hp_n h) 0, am_kd h.2.2.2.1 (hp_n h) (t, n), hp_n h + 1, hp_u h + m)
abbrev am_O : Type := Option ((Nat × List am_V × List am_V × am_H) ⊕ (Nat × List am_V × List am_V × Nat × Bool) ⊕ Option am_V ⊕ Nat)
abbrev am_F : Type := List am_V → List am_V → am_H → am_O
abbrev am_R : Type := Option am_V ⊕ Nat
abbrev am_go (pc : Nat) (ls st : List am_V) (h : am_H) : am_O := some (.inl (pc, ls, st, h))
/-- a local is set: a long that lay over the place is gone -/
def am_kill (ls : List am_V) (k : Nat) : List am_V := match k with
  | 0 => ls
  | j + 1 => match ls[j]? with
    | some (.inr (.inl _)) => ls.set j am_u
    | _ => ls
def am_put (ls : List am_V) (k : Nat) (v : am_V) : List am_V := (am_kill ls k).set k v
def am_putL (ls : List am_V) (k : Nat) (v : am_V) : List am_V := ((am_kill ls k).set k v).set (k + 1) am_u
-- instructions
def in_const (v : am_V) (nx : Nat) : am_F := fun ls st h => am_go nx ls (v :: st) h
def in_glob (k nx : Nat) : am_F := fun ls st h => am_go nx ls (am_r (hp_R h 0 k) :: st) h
def in_globI (k nx : Nat) : am_F := fun ls st h => am_go nx ls (am_i (hp_I h 0 k) :: st) h
def in_iload (k nx : Nat) : am_F := fun ls st h => match ls[k]? with
  | some (.inl x) => am_go nx ls (am_i x :: st) h
  | _ => none
def in_lload (k nx : Nat) : am_F := fun ls st h => match ls[k]? with
  | some (.inr (.inl x)) => am_go nx ls (am_l x :: st) h
  | _ => none
def in_aload (k nx : Nat) : am_F := fun ls st h => match ls[k]? with
  | some (.inr (.inr (.inl x))) => am_go nx ls (am_r x :: st) h
  | _ => none
def in_istore (k nx : Nat) : am_F := fun ls st h => match st with
  | .inl x :: st => if k < ls.length then am_go nx (am_put ls k (am_i x)) st h else none
  | _ => none
def in_lstore (k nx : Nat) : am_F := fun ls st h => match st with
  | .inr (.inl x) :: st => if k + 1 < ls.length then am_go nx (am_putL ls k (am_l x)) st h else none
  | _ => none
def in_astore (k nx : Nat) : am_F := fun ls st h => match st with
  | .inr (.inr (.inl x)) :: st => if k < ls.length then am_go nx (am_put ls k (am_r x)) st h else none
  | _ => none
def in_iinc (k : Nat) (v : Int32) (nx : Nat) : am_F := fun ls st h => match ls[k]? with
  | some (.inl x) => am_go nx (am_put ls k (am_i (x + v))) st h
  | _ => none
def in_bin (f : Int32 → Int32 → Int32) (nx : Nat) : am_F := fun ls st h => match st with
  | .inl y :: .inl x :: st => am_go nx ls (am_i (f x y) :: st) h
  | _ => none
def in_bin0 (f : Int32 → Int32 → Int32) (nx : Nat) : am_F := fun ls st h => match st with
  | .inl y :: .inl x :: st => if y = 0 then none else am_go nx ls (am_i (f x y) :: st) h
  | _ => none
def in_un (f : Int32 → Int32) (nx : Nat) : am_F := fun ls st h => match st with
  | .inl x :: st => am_go nx ls (am_i (f x) :: st) h
  | _ => none
def in_lbin (f : Int64 → Int64 → Int64) (nx : Nat) : am_F := fun ls st h => match st with
  | .inr (.inl y) :: .inr (.inl x) :: st => am_go nx ls (am_l (f x y) :: st) h
  | _ => none
def in_lbin0 (f : Int64 → Int64 → Int64) (nx : Nat) : am_F := fun ls st h => match st with
  | .inr (.inl y) :: .inr (.inl x) :: st => if y = 0 then none else am_go nx ls (am_l (f x y) :: st) h
  | _ => none
def in_lsh (nx : Nat) : am_F := fun ls st h => match st with
  | .inl y :: .inr (.inl x) :: st => am_go nx ls (am_l (x <<< (y.toInt64 &&& 63)) :: st) h
  | _ => none
def in_lcmp (nx : Nat) : am_F := fun ls st h => match st with
  | .inr (.inl y) :: .inr (.inl x) :: st => am_go nx ls (am_i (lg_cmp x y) :: st) h
  | _ => none
def in_i2l (nx : Nat) : am_F := fun ls st h => match st with
  | .inl x :: st => am_go nx ls (am_l x.toInt64 :: st) h
  | _ => none
def in_pop (nx : Nat) : am_F := fun ls st h => match st with
  | .inl _ :: st => am_go nx ls st h
  | .inr (.inr (.inl _)) :: st => am_go nx ls st h
  | _ => none
def in_dup (nx : Nat) : am_F := fun ls st h => match st with
  | .inl x :: st => am_go nx ls (am_i x :: am_i x :: st) h
  | .inr (.inr (.inl x)) :: st => am_go nx ls (am_r x :: am_r x :: st) h
  | _ => none
/-- dup_x1: what is below may be a reference or an int -/
def in_dupx1 (nx : Nat) : am_F := fun ls st h => match st with
  | .inl x :: .inr (.inr (.inl y)) :: st => am_go nx ls (am_i x :: am_r y :: am_i x :: st) h
  | .inr (.inr (.inl x)) :: .inr (.inr (.inl y)) :: st => am_go nx ls (am_r x :: am_r y :: am_r x :: st) h
  | _ => none
/-- dup2 of an index over an array -/
def in_dup2 (nx : Nat) : am_F := fun ls st h => match st with
  | .inl x :: .inr (.inr (.inl y)) :: st => am_go nx ls (am_i x :: am_r y :: am_i x :: am_r y :: st) h
  | _ => none
def in_if (c : Int32 → Bool) (tgt nx : Nat) : am_F := fun ls st h => match st with
  | .inl x :: st => am_go (cond (c x) tgt nx) ls st h
  | _ => none
def in_icmp (c : Int32 → Int32 → Bool) (tgt nx : Nat) : am_F := fun ls st h => match st with
  | .inl y :: .inl x :: st => am_go (cond (c x y) tgt nx) ls st h
  | _ => none
def in_ifnull (tgt nx : Nat) : am_F := fun ls st h => match st with
  | .inr (.inr (.inl x)) :: st => am_go (cond (Nat.beq x 0) tgt nx) ls st h
  | _ => none
def in_acmpne (tgt nx : Nat) : am_F := fun ls st h => match st with
  | .inr (.inr (.inl y)) :: .inr (.inr (.inl x)) :: st => am_go (cond (Nat.beq x y) nx tgt) ls st h
  | _ => none
def in_goto (tgt : Nat) : am_F := fun ls st h => am_go tgt ls st h
def am_sw (tb : List (Int32 × Nat)) (df : Nat) (x : Int32) : Nat := match tb with
  | [] => df
  | (k, t) :: tb => if x = k then t else am_sw tb df x
def in_switch (tb : List (Int32 × Nat)) (df : Nat) : am_F := fun ls st h => match st with
  | .inl x :: st => am_go (am_sw tb df x) ls st h
  | _ => none
/-- fields: ts: the kinds that have the field, k: its place -/
def in_getI (ts : List Nat) (k nx : Nat) : am_F := fun ls st h => match st with
  | .inr (.inr (.inl a)) :: st => cond (ts.contains (hp_K h a).1) (am_go nx ls (am_i (hp_I h a k) :: st) h) none
  | _ => none
def in_getL (ts : List Nat) (k nx : Nat) : am_F := fun ls st h => match st with
  | .inr (.inr (.inl a)) :: st => cond (ts.contains (hp_K h a).1) (am_go nx ls (am_l (hp_L h a k) :: st) h) none
  | _ => none
def in_getR (ts : List Nat) (k nx : Nat) : am_F := fun ls st h => match st with
  | .inr (.inr (.inl a)) :: st => cond (ts.contains (hp_K h a).1) (am_go nx ls (am_r (hp_R h a k) :: st) h) none
  | _ => none
def in_putI (ts : List Nat) (k nx : Nat) : am_F := fun ls st h => match st with
  | .inl x :: .inr (.inr (.inl a)) :: st => cond (ts.contains (hp_K h a).1) (am_go nx ls st (hp_sI h a k x)) none
  | _ => none
def in_putZ (ts : List Nat) (k nx : Nat) : am_F := fun ls st h => match st with
  | .inl x :: .inr (.inr (.inl a)) :: st => cond (ts.contains (hp_K h a).1) (if x = 0 ∨ x = 1 then am_go nx ls st (hp_sI h a k x) else none) none
  | _ => none
def in_putL (ts : List Nat) (k nx : Nat) : am_F := fun ls st h => match st with
  | .inr (.inl x) :: .inr (.inr (.inl a)) :: st => cond (ts.contains (hp_K h a).1) (am_go nx ls st (hp_sL h a k x)) none
  | _ => none
def in_putR (ts : List Nat) (k nx : Nat) : am_F := fun ls st h => match st with
  | .inr (.inr (.inl x)) :: .inr (.inr (.inl a)) :: st => cond (ts.contains (hp_K h a).1) (am_go nx ls st (hp_sR h a k x)) none
  | _ => none
/-- arrays: 1 int, 2 byte, 3 boolean, 4 long, 5 Object, 6 Kept; to read only: 11 int, 12 byte, 15 Object, 17 String -/
def in_xald (ts : List Nat) (nx : Nat) : am_F := fun ls st h => match st with
  | .inl i :: .inr (.inr (.inl a)) :: st => cond (ts.contains (hp_K h a).1) (if i < 0 ∨ (hp_K h a).2 ≤ i.toNatClampNeg then none else am_go nx ls (am_i (hp_I h a i.toNatClampNeg) :: st) h) none
  | _ => none
def in_lald (nx : Nat) : am_F := fun ls st h => match st with
  | .inl i :: .inr (.inr (.inl a)) :: st => cond (Nat.beq (hp_K h a).1 4) (if i < 0 ∨ (hp_K h a).2 ≤ i.toNatClampNeg then none else am_go nx ls (am_l (hp_L h a i.toNatClampNeg) :: st) h) none
  | _ => none
def in_aald (ts : List Nat) (nx : Nat) : am_F := fun ls st h => match st with
  | .inl i :: .inr (.inr (.inl a)) :: st => cond (ts.contains (hp_K h a).1) (if i < 0 ∨ (hp_K h a).2 ≤ i.toNatClampNeg then none else am_go nx ls (am_r (hp_R h a i.toNatClampNeg) :: st) h) none
  | _ => none
def in_iast (nx : Nat) : am_F := fun ls st h => match st with
  | .inl x :: .inl i :: .inr (.inr (.inl a)) :: st => cond (Nat.beq (hp_K h a).1 1) (if i < 0 ∨ (hp_K h a).2 ≤ i.toNatClampNeg then none else am_go nx ls st (hp_sI h a i.toNatClampNeg x)) none
  | _ => none
/-- bastore: a byte array keeps eight bits, a boolean array one -/
def in_bast (nx : Nat) : am_F := fun ls st h => match st with
  | .inl x :: .inl i :: .inr (.inr (.inl a)) :: st =>
    if i < 0 ∨ (hp_K h a).2 ≤ i.toNatClampNeg then none else
    if (hp_K h a).1 = 2 then am_go nx ls st (hp_sI h a i.toNatClampNeg (vp_nar .byte x)) else
    if (hp_K h a).1 = 3 then am_go nx ls st (hp_sI h a i.toNatClampNeg (vp_nar .boolean x)) else none
  | _ => none
def in_last (nx : Nat) : am_F := fun ls st h => match st with
  | .inr (.inl x) :: .inl i :: .inr (.inr (.inl a)) :: st => cond (Nat.beq (hp_K h a).1 4) (if i < 0 ∨ (hp_K h a).2 ≤ i.toNatClampNeg then none else am_go nx ls st (hp_sL h a i.toNatClampNeg x)) none
  | _ => none
/-- aastore: into an Object array null or any object that is made here; into a Kept array a Kept (108) -/
def in_aast (nx : Nat) : am_F := fun ls st h => match st with
  | .inr (.inr (.inl x)) :: .inl i :: .inr (.inr (.inl a)) :: st =>
    if i < 0 ∨ (hp_K h a).2 ≤ i.toNatClampNeg then none else
    if ((hp_K h a).1 = 5 ∧ (x = 0 ∨ (100 ≤ (hp_K h x).1 ∧ (hp_K h x).1 < 200))) ∨ ((hp_K h a).1 = 6 ∧ (hp_K h x).1 = 108) then am_go nx ls st (hp_sR h a i.toNatClampNeg x) else none
  | _ => none
def in_alen (nx : Nat) : am_F := fun ls st h => match st with
  | .inr (.inr (.inl a)) :: st => cond (([1, 2, 3, 4, 5, 6, 11, 12, 15, 17] : List Nat).contains (hp_K h a).1) (am_go nx ls (am_i (Int32.ofNat (hp_K h a).2) :: st) h) none
  | _ => none
def in_new (t m nx : Nat) : am_F := fun ls st h => am_go nx ls (am_r (hp_n h) :: st) (hp_new h t 0 m)
def in_newa (t nx : Nat) : am_F := fun ls st h => match st with
  | .inl x :: st => if x < 0 ∨ 10000 < x.toNatClampNeg then none else am_go nx ls (am_r (hp_n h) :: st) (hp_new h t x.toNatClampNeg x.toNatClampNeg)
  | _ => none
def in_cast (ts : List Nat) (nx : Nat) : am_F := fun ls st h => match st with
  | .inr (.inr (.inl a)) :: st => cond (Nat.beq a 0 || ts.contains (hp_K h a).1) (am_go nx ls (am_r a :: st) h) none
  | _ => none
def am_cat (v : am_V) : Nat := match v with
  | .inr (.inl _) => 2
  | _ => 1
def am_sum (l : List am_V) : Nat := match l with
  | [] => 0
  | v :: l => am_cat v + am_sum l
/-- a call: j: the method, n: how many arguments -/
def in_callS (j n nx : Nat) : am_F := fun _ st _ => if n ≤ st.length ∧ am_sum (st.drop n) ≤ 8 then some (.inr (.inl (j, (st.take n).reverse, st.drop n, nx, false))) else none
/-- the receiver lies below n arguments -/
def am_recv (st : List am_V) (n : Nat) : Nat := match st[n]? with
  | some (.inr (.inr (.inl a))) => a
  | _ => 0
def in_callI (j n nx : Nat) : am_F := fun _ st _ => if am_recv st n ≠ 0 ∧ am_sum (st.drop (n + 1)) ≤ 8 then some (.inr (.inl (j, (st.take (n + 1)).reverse, st.drop (n + 1), nx, false))) else none
def am_disp (tb : List (Nat × Nat)) (t : Nat) : Option Nat := match tb with
  | [] => none
  | (k, j) :: tb => cond (Nat.beq k t) (some j) (am_disp tb t)
/-- a call through an object: tb: the kinds of the receiver and their methods; fl: the callee may throw -/
def in_callD (fl : Bool) (tb : List (Nat × Nat)) (n nx : Nat) : am_F := fun _ st h => match am_disp tb (hp_K h (am_recv st n)).1 with
  | some j => if am_recv st n ≠ 0 ∧ am_sum (st.drop (n + 1)) ≤ 8 then some (.inr (.inl (j, (st.take (n + 1)).reverse, st.drop (n + 1), nx, fl))) else none
  | none => none
abbrev in_callV (tb : List (Nat × Nat)) (n nx : Nat) : am_F := in_callD true tb n nx
abbrev in_callU (tb : List (Nat × Nat)) (n nx : Nat) : am_F := in_callD false tb n nx
/-- strings that are constants: the global 1000 + a is the array of the string a (0: a is none) -/
def in_strV (nx : Nat) : am_F := fun ls st h => match st with
  | .inr (.inr (.inl a)) :: st => if hp_R h 0 (1000 + a) = 0 then none else am_go nx ls (am_r (hp_R h 0 (1000 + a)) :: st) h
  | _ => none
def in_strC (nx : Nat) : am_F := fun ls st h => match st with
  | .inr (.inr (.inl a)) :: st => if hp_R h 0 (1000 + a) = 0 then none else am_go nx ls (am_i 0 :: st) h
  | _ => none
/-- a method of such a string -/
def in_callT (j n nx : Nat) : am_F := fun _ st h => if hp_R h 0 (1000 + am_recv st n) ≠ 0 ∧ am_recv st n ≠ 0 ∧ am_sum (st.drop (n + 1)) ≤ 8 then some (.inr (.inl (j, (st.take (n + 1)).reverse, st.drop (n + 1), nx, true))) else none
/-- Object's constructor -/
def in_obj (nx : Nat) : am_F := fun ls st h => match st with
  | .inr (.inr (.inl a)) :: st => if a ≠ 0 ∧ am_sum st ≤ 8 then am_go nx ls st h else none
  | _ => none
def in_iret : am_F := fun _ st _ => match st with
  | [.inl x] => some (.inr (.inr (.inl (some (am_i x)))))
  | _ => none
def in_zret : am_F := fun _ st _ => match st with
  | [.inl x] => if x = 0 ∨ x = 1 then some (.inr (.inr (.inl (some (am_i x))))) else none
  | _ => none
/-- a small type's answer -/
def in_nret (ty : FieldType) : am_F := fun _ st _ => match st with
  | [.inl x] => if vp_nar ty x = x then some (.inr (.inr (.inl (some (am_i x))))) else none
  | _ => none
def in_lret : am_F := fun _ st _ => match st with
  | [.inr (.inl x)] => some (.inr (.inr (.inl (some (am_l x)))))
  | _ => none
def in_aret : am_F := fun _ st _ => match st with
  | [.inr (.inr (.inl x))] => some (.inr (.inr (.inl (some (am_r x)))))
  | _ => none
def in_vret : am_F := fun _ st _ => match st with
  | [] => some (.inr (.inr (.inl none)))
  | _ => none
def in_throw : am_F := fun _ st h => match st with
  | .inr (.inr (.inl x)) :: _ => if (hp_K h x).1 = 103 then some (.inr (.inr (.inr x))) else none
  | _ => none
/-- arraycopy: n places of the same kind, from one array to another or within one -/
def am_cpy {α : Type} (f : Nat → Nat → α) (a p b q n : Nat) : Nat → Nat → α := fun c j => if c = b ∧ q ≤ j ∧ j < q + n then f a (p + (j - q)) else f c j
/-- n elements from p on are null or objects made here -/
def am_objs (h : am_H) (a p n : Nat) : Prop := ∀ j, j < n → hp_R h a (p + j) = 0 ∨ (100 ≤ (hp_K h (hp_R h a (p + j))).1 ∧ (hp_K h (hp_R h a (p + j))).1 < 200)
def am_objsB (h : am_H) (a p n : Nat) : Bool := (List.range n).all (fun j => decide (hp_R h a (p + j) = 0 ∨ (100 ≤ (hp_K h (hp_R h a (p + j))).1 ∧ (hp_K h (hp_R h a (p + j))).1 < 200)))
theorem am_objs_iff {h : am_H} {a p n : Nat} : am_objsB h a p n = true ↔ am_objs h a p n := by
  simp [am_objsB, am_objs]
def in_acpy (nx : Nat) : am_F := fun ls st h => match st with
  | [.inl n, .inl q, .inr (.inr (.inl b)), .inl p, .inr (.inr (.inl a))] =>
    if n < 0 ∨ p < 0 ∨ q < 0 ∨ (hp_K h a).2 < p.toNatClampNeg + n.toNatClampNeg ∨ (hp_K h b).2 < q.toNatClampNeg + n.toNatClampNeg then none else
    if (hp_K h a).1 = 1 ∧ (hp_K h b).1 = 1 then am_go nx ls [] (am_cpy h.1 a p.toNatClampNeg b q.toNatClampNeg n.toNatClampNeg, h.2) else
    if (hp_K h a).1 = 4 ∧ (hp_K h b).1 = 4 then am_go nx ls [] (h.1, am_cpy h.2.1 a p.toNatClampNeg b q.toNatClampNeg n.toNatClampNeg, h.2.2) else
    if (hp_K h a).1 = 5 ∧ (hp_K h b).1 = 5 ∧ am_objsB h a p.toNatClampNeg n.toNatClampNeg = true then am_go nx ls [] (h.1, h.2.1, am_cpy h.2.2.1 a p.toNatClampNeg b q.toNatClampNeg n.toNatClampNeg, h.2.2.2) else none
  | _ => none
/-- getClass of an Object array -/
def in_getCls (nx : Nat) : am_F := fun ls st h => match st with
  | .inr (.inr (.inl a)) :: st => if (hp_K h a).1 = 5 ∧ am_sum st ≤ 8 then am_go nx ls (am_r (hp_R h 0 5) :: st) h else none
  | _ => none
/-- Math.max, Math.min -/
def in_binR (f : Int32 → Int32 → Int32) (nx : Nat) : am_F := fun ls st h => match st with
  | .inl y :: .inl x :: st => if am_sum st ≤ 8 then am_go nx ls (am_i (f x y) :: st) h else none
  | _ => none
def f_max : Int32 → Int32 → Int32 := fun x y => if x < y then y else x
def f_min : Int32 → Int32 → Int32 := fun x y => if y < x then y else x
abbrev f_add : Int32 → Int32 → Int32 := fun x y => x + y
abbrev f_sub : Int32 → Int32 → Int32 := fun x y => x - y
abbrev f_mul : Int32 → Int32 → Int32 := fun x y => x * y
abbrev f_div : Int32 → Int32 → Int32 := fun x y => x / y
abbrev f_rem : Int32 → Int32 → Int32 := fun x y => x - x / y * y
abbrev f_shl : Int32 → Int32 → Int32 := fun x y => x <<< (y &&& 31)
abbrev f_shr : Int32 → Int32 → Int32 := fun x y => x >>> (y &&& 31)
abbrev f_ushr : Int32 → Int32 → Int32 := fun x y => (x.toUInt32 >>> (y.toUInt32 &&& Int32.toUInt32 31)).toInt32
abbrev f_and : Int32 → Int32 → Int32 := fun x y => x &&& y
abbrev f_or : Int32 → Int32 → Int32 := fun x y => x ||| y
abbrev f_xor : Int32 → Int32 → Int32 := fun x y => x ^^^ y
abbrev f_neg : Int32 → Int32 := fun x => -x
abbrev f_i2b : Int32 → Int32 := fun x => x.toInt8.toInt32
abbrev f_i2c : Int32 → Int32 := fun x => (x.toUInt32 % 65536).toInt32
abbrev f_ladd : Int64 → Int64 → Int64 := fun x y => x + y
abbrev f_lmul : Int64 → Int64 → Int64 := fun x y => x * y
abbrev f_lor : Int64 → Int64 → Int64 := fun x y => x ||| y
abbrev f_ldiv : Int64 → Int64 → Int64 := fun x y => x / y
abbrev f_lrem : Int64 → Int64 → Int64 := fun x y => x - x / y * y
abbrev c_eq : Int32 → Int32 → Bool := fun x y => decide (x = y)
abbrev c_ne : Int32 → Int32 → Bool := fun x y => decide (¬ x = y)
abbrev c_lt : Int32 → Int32 → Bool := fun x y => decide (x < y)
abbrev c_ge : Int32 → Int32 → Bool := fun x y => decide (y ≤ x)
abbrev c_gt : Int32 → Int32 → Bool := fun x y => decide (y < x)
abbrev c_le : Int32 → Int32 → Bool := fun x y => decide (x ≤ y)
abbrev c_eq0 : Int32 → Bool := fun x => decide (x = 0)
abbrev c_ne0 : Int32 → Bool := fun x => decide (¬ x = 0)
abbrev c_lt0 : Int32 → Bool := fun x => decide (x < 0)
abbrev c_ge0 : Int32 → Bool := fun x => decide (0 ≤ x)
abbrev c_gt0 : Int32 → Bool := fun x => decide (0 < x)
abbrev c_le0 : Int32 → Bool := fun x => decide (x ≤ 0)
/-- Pairs' own link to the outer object (place 1), and its heirs' (place k): their slots are not known to be apart, so the heir's is set while the other is null, and the other only to the same -/
def in_getO (ts : List Nat) (nx : Nat) : am_F := fun ls st h => match st with
  | .inr (.inr (.inl a)) :: st => cond (ts.contains (hp_K h a).1) (if hp_R h a 1 = 0 then none else am_go nx ls (am_r (hp_R h a 1) :: st) h) none
  | _ => none
def am_oth (t : Nat) : Nat := if t = 106 then 4 else 3
def in_putO (ts : List Nat) (nx : Nat) : am_F := fun ls st h => match st with
  | .inr (.inr (.inl x)) :: .inr (.inr (.inl a)) :: st => cond (ts.contains (hp_K h a).1) (if hp_R h a (am_oth (hp_K h a).1) = x then am_go nx ls st (hp_sR h a 1 x) else none) none
  | _ => none
def in_putOO (ts : List Nat) (k nx : Nat) : am_F := fun ls st h => match st with
  | .inr (.inr (.inl x)) :: .inr (.inr (.inl a)) :: st => cond (ts.contains (hp_K h a).1) (if hp_R h a 1 = 0 then am_go nx ls st (hp_sR h a k x) else none) none
  | _ => none
/-- 'new Wrong()' whole -/
def in_newex (m nx : Nat) : am_F := fun ls st h => if am_sum st ≤ 8 then am_go nx ls (am_r (hp_n h) :: st) (hp_new h 103 0 m) else none
