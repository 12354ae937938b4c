/-! NEW CELLS: a heap h with n new cells, told by tables -/
/-- a link by its code: null, the empty row, the new cell -/
def dec (h : am_H) (x : Nat) : Nat → Nat
  | 0 => 0
  | 1 => hp_R h 0 1
  | b + 2 => x + b
def nh (h : am_H) (x n u : Nat) (K : Nat → Nat × Nat) (I : am_M) (R : Nat → Nat → Nat) : am_H :=
  (fun b => if x ≤ b ∧ b < x + n then I (b - x) else h.1 b, fun b => if x ≤ b ∧ b < x + n then (fun _ => 0) else h.2.1 b, fun b => if x ≤ b ∧ b < x + n then (fun k => dec h x (R (b - x) k)) else h.2.2.1 b, fun b => if x ≤ b ∧ b < x + n then K (b - x) else h.2.2.2.1 b, x + n, hp_u h + u)
section New
variable {d i pc : Nat} {ls st : List am_V} {h : am_H} {x n u : Nat} {K : Nat → Nat × Nat} {I : am_M} {R : Nat → Nat → Nat} {Q : am_R → am_H → Prop}
theorem nh_K {a : Nat} (ha : a < n) : hp_K (nh h x n u K I R) (x + a) = K a := by
  show (if x ≤ x + a ∧ x + a < x + n then K (x + a - x) else _) = _
  rw [if_pos (by omega), Nat.add_sub_cancel_left]
theorem nh_I {a : Nat} (ha : a < n) : hp_I (nh h x n u K I R) (x + a) = I a := by
  show (if x ≤ x + a ∧ x + a < x + n then I (x + a - x) else _) = _
  rw [if_pos (by omega), Nat.add_sub_cancel_left]
theorem nh_R {a : Nat} (ha : a < n) : hp_R (nh h x n u K I R) (x + a) = fun k => dec h x (R a k) := by
  show (if x ≤ x + a ∧ x + a < x + n then (fun k => dec h x (R (x + a - x) k)) else _) = _
  rw [if_pos (by omega), Nat.add_sub_cancel_left]
theorem nh_0 (hx : x = hp_n h) : nh h x 0 0 K I R = h := by
  unfold nh
  subst hx
  refine Prod.ext (funext fun b => if_neg (by omega)) (Prod.ext (funext fun b => if_neg (by omega)) (Prod.ext (funext fun b => if_neg (by omega)) (Prod.ext (funext fun b => if_neg (by omega)) (Prod.ext rfl rfl))))
theorem nh_new {t l m n' u' : Nat} (hK : K n = (t, l)) (hI : ∀ k, I n k = 0) (hR : ∀ k, R n k = 0) (e1 : n + 1 = n') (e2 : u + m = u') : hp_new (nh h x n u K I R) t l m = nh h x n' u' K I R := by
  subst e1 e2
  have en : hp_n (nh h x n u K I R) = x + n := rfl
  unfold hp_new
  rw [en]
  have key : ∀ b : Nat, b = x + n ∨ (¬ b = x + n ∧ (x ≤ b ∧ b < x + (n + 1) ↔ x ≤ b ∧ b < x + n)) := fun b => by omega
  refine Prod.ext (funext fun b => ?_) (Prod.ext (funext fun b => ?_) (Prod.ext (funext fun b => ?_) (Prod.ext (funext fun b => ?_) (Prod.ext rfl ?_))))
  · show am_zap _ (x + n) 0 b = if x ≤ b ∧ b < x + (n + 1) then I (b - x) else h.1 b
    unfold am_zap
    rcases key b with e | ⟨e, q⟩
    · subst e
      rw [if_pos (by omega), Nat.add_sub_cancel_left]
      funext k; rw [if_pos rfl]; exact (hI k).symm
    · funext k
      rw [if_neg e]
      show (if x ≤ b ∧ b < x + n then I (b - x) else h.1 b) k = _
      by_cases c : x ≤ b ∧ b < x + n
      · rw [if_pos c, if_pos (q.mpr c)]
      · rw [if_neg c, if_neg (fun z => c (q.mp z))]
  · show am_zap _ (x + n) 0 b = if x ≤ b ∧ b < x + (n + 1) then (fun _ => 0) else h.2.1 b
    unfold am_zap
    rcases key b with e | ⟨e, q⟩
    · subst e
      rw [if_pos (by omega)]
      funext k; rw [if_pos rfl]
    · funext k
      rw [if_neg e]
      show (if x ≤ b ∧ b < x + n then (fun _ => 0) else h.2.1 b) k = _
      by_cases c : x ≤ b ∧ b < x + n
      · rw [if_pos c, if_pos (q.mpr c)]
      · rw [if_neg c, if_neg (fun z => c (q.mp z))]
  · show am_zap _ (x + n) 0 b = if x ≤ b ∧ b < x + (n + 1) then (fun k => dec h x (R (b - x) k)) else h.2.2.1 b
    unfold am_zap
    rcases key b with e | ⟨e, q⟩
    · subst e
      rw [if_pos (by omega), Nat.add_sub_cancel_left]
      funext k; rw [if_pos rfl, hR k]; rfl
    · funext k
      rw [if_neg e]
      show (if x ≤ b ∧ b < x + n then (fun k => dec h x (R (b - x) k)) else h.2.2.1 b) k = _
      by_cases c : x ≤ b ∧ b < x + n
      · rw [if_pos c, if_pos (q.mpr c)]
      · rw [if_neg c, if_neg (fun z => c (q.mp z))]
  · show am_kd _ (x + n) (t, l) b = if x ≤ b ∧ b < x + (n + 1) then K (b - x) else h.2.2.2.1 b
    unfold am_kd
    rcases key b with e | ⟨e, q⟩
    · subst e
      rw [if_pos rfl, if_pos (by omega), Nat.add_sub_cancel_left, hK]
    · rw [if_neg e]
      show (if x ≤ b ∧ b < x + n then K (b - x) else h.2.2.2.1 b) = _
      by_cases c : x ≤ b ∧ b < x + n
      · rw [if_pos c, if_pos (q.mpr c)]
      · rw [if_neg c, if_neg (fun z => c (q.mp z))]
  · show hp_u h + u + m = hp_u h + (u + m); omega
theorem nh_sI {a k : Nat} {v : Int32} (ha : a < n) : hp_sI (nh h x n u K I R) (x + a) k v = nh h x n u K (am_up I a k v) R := by
  unfold hp_sI nh am_up
  refine Prod.ext ?_ rfl
  funext b j
  dsimp only
  by_cases e : b = x + a ∧ j = k
  · rw [if_pos e, if_pos (by omega), if_pos ⟨by omega, e.2⟩]
  · rw [if_neg e]
    by_cases e2 : x ≤ b ∧ b < x + n
    · rw [if_pos e2, if_pos e2, if_neg (fun z => e ⟨by omega, z.2⟩)]
    · rw [if_neg e2, if_neg e2]
theorem nh_sR {a k c : Nat} (ha : a < n) : hp_sR (nh h x n u K I R) (x + a) k (dec h x c) = nh h x n u K I (am_up R a k c) := by
  unfold hp_sR nh am_up
  refine Prod.ext rfl (Prod.ext rfl (Prod.ext ?_ rfl))
  funext b j
  dsimp only
  by_cases e : b = x + a ∧ j = k
  · rw [if_pos e, if_pos (by omega), if_pos ⟨by omega, e.2⟩]
  · rw [if_neg e]
    by_cases e2 : x ≤ b ∧ b < x + n
    · rw [if_pos e2, if_pos e2, if_neg (fun z => e ⟨by omega, z.2⟩)]
    · rw [if_neg e2, if_neg e2]
theorem nh_fr (hx : x = hp_n h) : Fr no no n u h (nh h x n u K I R) := by
  subst hx
  have o : ∀ b, b < hp_n h → ¬ (hp_n h ≤ b ∧ b < hp_n h + n) := fun b hb => by omega
  refine ⟨⟨by show hp_n h ≤ hp_n h + n; omega, by show hp_n h + n ≤ hp_n h + n; omega⟩, Nat.le_refl _, fun b hb => if_neg (o b hb), fun al => ?_, fun b hb _ => ⟨if_neg (o b hb), if_neg (o b hb)⟩, fun b hb _ => if_neg (o b hb)⟩
  have h0 := al.1
  refine ⟨by show 0 < hp_n h + n; omega, fun a ha => ?_⟩
  have ha' : hp_n h + n ≤ a ∨ a = 0 := ha
  show (if hp_n h ≤ a ∧ a < hp_n h + n then K (a - hp_n h) else hp_K h a).1 = 0
  rw [if_neg (by omega)]
  exact al.2 a (by omega)
-- rows
theorem no_new {t m nx n' u' : Nat} (f : am_fetch i pc = some (in_new t m nx)) (hK : K n = (t, 0)) (hI : ∀ k, I n k = 0) (hR : ∀ k, R n k = 0) (e1 : n + 1 = n') (e2 : u + m = u') (k : Rn d i nx ls (am_r (x + n) :: st) (nh h x n' u' K I R) Q) : Rn d i pc ls st (nh h x n u K I R) Q :=
  rw_new f (by rw [nh_new hK hI hR e1 e2]; exact k)
theorem no_newex {m nx n' u' : Nat} (f : am_fetch i pc = some (in_newex m nx)) (hK : K n = (103, 0)) (hI : ∀ k, I n k = 0) (hR : ∀ k, R n k = 0) (e1 : n + 1 = n') (e2 : u + m = u') (k : Rn d i nx ls (am_r (x + n) :: st) (nh h x n' u' K I R) Q) (hs : Nat.ble (am_sum st) 8 = true := by rfl) : Rn d i pc ls st (nh h x n u K I R) Q :=
  rw_newex f hs (by rw [nh_new hK hI hR e1 e2]; exact k)
theorem no_newa {t l nx n' u' : Nat} {v : Int32} (f : am_fetch i pc = some (in_newa t nx)) (hn : v.toNatClampNeg = l) (hv : ¬ (v < 0 ∨ 10000 < l)) (hK : K n = (t, l)) (hI : ∀ k, I n k = 0) (hR : ∀ k, R n k = 0) (e1 : n + 1 = n') (e2 : u + l = u') (k : Rn d i nx ls (am_r (x + n) :: st) (nh h x n' u' K I R) Q) : Rn d i pc ls (am_i v :: st) (nh h x n u K I R) Q :=
  rw_newa f hn hv (by rw [nh_new hK hI hR e1 e2]; exact k)
theorem no_putI {ts : List Nat} {g nx a t l : Nat} {v : Int32} (f : am_fetch i pc = some (in_putI ts g nx)) (ha : a < n) (hK : K a = (t, l)) (k : Rn d i nx ls st (nh h x n u K (am_up I a g v) R) Q) (ht : ts.contains t = true := by rfl) : Rn d i pc ls (am_i v :: am_r (x + a) :: st) (nh h x n u K I R) Q :=
  rw_putI f ((nh_K ha).trans hK) (by rw [nh_sI ha]; exact k) ht
theorem no_putR {ts : List Nat} {g nx a t l y c : Nat} (f : am_fetch i pc = some (in_putR ts g nx)) (ha : a < n) (hK : K a = (t, l)) (hy : y = dec h x c) (k : Rn d i nx ls st (nh h x n u K I (am_up R a g c)) Q) (ht : ts.contains t = true := by rfl) : Rn d i pc ls (am_r y :: am_r (x + a) :: st) (nh h x n u K I R) Q := by
  subst hy
  exact rw_putR f ((nh_K ha).trans hK) (by rw [nh_sR ha]; exact k) ht
theorem no_putO {ts : List Nat} {nx a t l y c : Nat} (f : am_fetch i pc = some (in_putO ts nx)) (ha : a < n) (hK : K a = (t, l)) (hy : y = dec h x c) (h0 : R a (am_oth t) = c) (k : Rn d i nx ls st (nh h x n u K I (am_up R a 1 c)) Q) (ht : ts.contains t = true := by rfl) : Rn d i pc ls (am_r y :: am_r (x + a) :: st) (nh h x n u K I R) Q := by
  subst hy
  exact rw_putO f ((nh_K ha).trans hK) (by rw [nh_R ha]; show dec h x (R a (am_oth t)) = _; rw [h0]) (by rw [nh_sR ha]; exact k) ht
theorem no_putOO {ts : List Nat} {g nx a t l y c : Nat} (f : am_fetch i pc = some (in_putOO ts g nx)) (ha : a < n) (hK : K a = (t, l)) (hy : y = dec h x c) (h0 : R a 1 = 0) (k : Rn d i nx ls st (nh h x n u K I (am_up R a g c)) Q) (ht : ts.contains t = true := by rfl) : Rn d i pc ls (am_r y :: am_r (x + a) :: st) (nh h x n u K I R) Q := by
  subst hy
  exact rw_putOO f ((nh_K ha).trans hK) (by rw [nh_R ha]; show dec h x (R a 1) = _; rw [h0]; rfl) (by rw [nh_sR ha]; exact k) ht
theorem no_getR {ts : List Nat} {g nx a t l b : Nat} (f : am_fetch i pc = some (in_getR ts g nx)) (ha : a < n) (hK : K a = (t, l)) (hR : R a g = b + 2) (k : Rn d i nx ls (am_r (x + b) :: st) (nh h x n u K I R) Q) (ht : ts.contains t = true := by rfl) : Rn d i pc ls (am_r (x + a) :: st) (nh h x n u K I R) Q :=
  rw_getR f ((nh_K ha).trans hK) (by rw [nh_R ha]; show dec h x (R a g) = _; rw [hR]; rfl) k ht
theorem no_iast {nx a l j : Nat} {v : Int32} (f : am_fetch i pc = some (in_iast nx)) (ha : a < n) (hK : K a = (1, l)) (hj : j < l) (hl : l < 2147483648) (k : Rn d i nx ls st (nh h x n u K (am_up I a j v) R) Q) : Rn d i pc ls (am_i v :: am_i (nI j) :: am_r (x + a) :: st) (nh h x n u K I R) Q :=
  rw_iastE f ((nh_K ha).trans hK) rfl hj hl (by rw [nh_sI ha]; exact k)
theorem no_kast {nx a l j b t' : Nat} {v : Int32} (f : am_fetch i pc = some (in_aast nx)) (ha : a < n) (hK : K a = (6, l)) (ej : v.toNatClampNeg = j) (hj : vp_in v l) (hb : b < n) (hKb : K b = (108, t')) (k : Rn d i nx ls st (nh h x n u K I (am_up R a j (b + 2))) Q) : Rn d i pc ls (am_r (x + b) :: am_i v :: am_r (x + a) :: st) (nh h x n u K I R) Q := by
  subst ej
  exact rw_kast f ((nh_K ha).trans hK) hj (by rw [nh_K hb, hKb]) (by rw [show x + b = dec h x (b + 2) from rfl, nh_sR ha]; exact k)
theorem no_glob {nx : Nat} (hx : ¬ x = 0) (f : am_fetch i pc = some (in_glob 1 nx)) (k : Rn d i nx ls (am_r (hp_R h 0 1) :: st) (nh h x n u K I R) Q) : Rn d i pc ls st (nh h x n u K I R) Q :=
  rw_glob f (by rw [show hp_R (nh h x n u K I R) 0 1 = hp_R h 0 1 from congrFun (if_neg (by omega)) 1]; exact k)
end New
