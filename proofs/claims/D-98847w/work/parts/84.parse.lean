/-! THE TEXT, purely: what is read out of it, or what is wrong (sort, place) -/
abbrev er : Type := Int32 × Nat
abbrev res (α : Type) : Type := α ⊕ er
def bnd {α β : Type} (r : res α) (f : α → res β) : res β := match r with
  | .inl a => f a
  | .inr e => .inr e
section Parse
variable (T : tx) (N : Nat)
def err1 (p : Nat) : er := (if tkD T N p = 4 then 1 else 2, p)
def pMust (c : Bool) (p : Nat) : res Nat := if c = true then .inl (tkX T N p) else .inr (err1 T N p)
def pNum (lo hi : Int32) (p : Nat) : res (Int32 × Nat) := if ¬ tkD T N p = 2 then .inr (err1 T N p) else if tkN T N p < lo then .inr (4, p) else if hi < tkN T N p then .inr (4, p) else .inl (tkN T N p, tkX T N p)
def pAfter (i : Nat) (lo hi : Int32) (p : Nat) : res (Int32 × Nat) := bnd (pMust T N (isW T N p (wc i)) p) (fun p => pNum T N lo hi p)
def isKept (w : Int64) : Bool := anyB (fun k => decide (w = wc (st_kw.getD k 0))) 22
def isNm (p : Nat) : Bool := decide (tkD T N p = 1) && !isKept (tkW T N p)
/-- the first of that name -/
def ixN (l : List Int64) (w : Int64) : Option Nat := fst1 (fun i => decide (l.getD i 0 = w)) l.length
def pFresh (l : List Int64) (p : Nat) : res (Int64 × Nat) := if isNm T N p = false then .inr (err1 T N p) else if (ixN l (tkW T N p)).isSome = true then .inr (3, p) else .inl (tkW T N p, tkX T N p)
def pKnown (l : List Int64) (p : Nat) : res (Nat × Nat) := if isNm T N p = false then .inr (err1 T N p) else match ixN l (tkW T N p) with
  | none => .inr (5, p)
  | some i => .inl (i, tkX T N p)
def isSH (p : Nat) (c : Int32) : Bool := decide (tkD T N p = 3) && decide (T p = c)
def pSigned (p : Nat) : res (Int32 × Nat) := if isSH T N p 45 = true then (if ¬ tkD T N (tkX T N p) = 2 then .inr (err1 T N (tkX T N p)) else if 9 < tkN T N (tkX T N p) then .inr (4, p) else .inl (-tkN T N (tkX T N p), tkX T N (tkX T N p))) else (if ¬ tkD T N p = 2 then .inr (err1 T N p) else if 9 < tkN T N p then .inr (4, p) else .inl (tkN T N p, tkX T N p))
/-- men: name, colour, holes, left; deeds: name, hours; buttons: name, on, by, deed, promise, until, thread, after -/
abbrev mnT : Type := Int64 × Int32 × Int32 × Int32
abbrev ddT : Type := Int64 × Int32
abbrev oaT : Type := Int64 × Nat × Nat × Nat × Bool × Int32 × Int32 × Int32
/-- men, deeds, buttons, friends' row, how many friends; wear, units; hours, storm, draw -/
abbrev rgT : Type := (List mnT × List ddT × List oaT) × ((Nat → Int32) × Nat) × (Option am_S × Nat) × (Option Int32 × Option Int32 × Option Int32)
def rg0 : rgT := (([], [], []), (fun _ => -100, 0), (none, 0), (none, none, none))
-- words by their numbers in the sorted list
abbrev wAFTER : Nat := 0
abbrev wAND : Nat := 1
abbrev wBUTTON : Nat := 2
abbrev wBY : Nat := 3
abbrev wCOLOUR : Nat := 4
abbrev wDAY : Nat := 5
abbrev wDEED : Nat := 6
abbrev wDOES : Nat := 7
abbrev wDRAW : Nat := 8
abbrev wFRIEND : Nat := 9
abbrev wHOLES : Nat := 10
abbrev wHOURS : Nat := 11
abbrev wLEFT : Nat := 12
abbrev wMAN : Nat := 13
abbrev wNEVER : Nat := 14
abbrev wNOT : Nat := 15
abbrev wON : Nat := 16
abbrev wOR : Nat := 17
abbrev wSTORM : Nat := 18
abbrev wTHREAD : Nat := 19
abbrev wUNTIL : Nat := 20
abbrev wWEAR : Nat := 21
abbrev isV (p i : Nat) : Bool := isW T N p (wc i)
/-- what is told behind a word, if that is there -/
def pOpt (i : Nat) (lo hi other : Int32) (p : Nat) : res (Int32 × Nat) := if isV T N p i = true then pAfter T N i lo hi p else .inl (other, p)
def pMan (g : rgT) (p : Nat) : res (rgT × Nat) := bnd (pFresh T N (g.1.1.map (·.1)) p) fun v => bnd (pOpt T N wCOLOUR 0 9 0 v.2) fun c => bnd (pOpt T N wHOLES 1 4 2 c.2) fun ho => if isV T N ho.2 wLEFT = true then .inl (((g.1.1 ++ [(v.1, c.1, ho.1, 1)], g.1.2), g.2), tkX T N ho.2) else .inl (((g.1.1 ++ [(v.1, c.1, ho.1, 0)], g.1.2), g.2), ho.2)
def pDeed (g : rgT) (p : Nat) : res (rgT × Nat) := bnd (pFresh T N (g.1.2.1.map (·.1)) p) fun v => bnd (pAfter T N wHOURS 1 24 v.2) fun c => .inl (((g.1.1, g.1.2.1 ++ [(v.1, c.1)], g.1.2.2), g.2), c.2)
def pButton (g : rgT) (p : Nat) : res (rgT × Nat) := bnd (pFresh T N (g.1.2.2.map (·.1)) p) fun v => bnd (pMust T N (isV T N v.2 wON) v.2) fun p => bnd (pKnown T N (g.1.1.map (·.1)) p) fun on_ => bnd (pMust T N (isV T N on_.2 wBY) on_.2) fun pl => bnd (pKnown T N (g.1.1.map (·.1)) pl) fun by_ => if by_.1 = on_.1 then .inr (3, pl) else bnd (pMust T N (isV T N by_.2 wDOES || isV T N by_.2 wNEVER) by_.2) fun p => bnd (pKnown T N (g.1.2.1.map (·.1)) p) fun de => bnd (pOpt T N wUNTIL 1 60 60 de.2) fun un => bnd (pOpt T N wTHREAD 1 99 10 un.2) fun th => if isV T N th.2 wAFTER = true then bnd (pKnown T N (g.1.2.2.map (·.1)) (tkX T N th.2)) fun af => .inl (((g.1.1, g.1.2.1, g.1.2.2 ++ [(v.1, on_.1, by_.1, de.1, isV T N by_.2 wDOES, un.1, th.1, nI af.1)]), g.2), af.2) else .inl (((g.1.1, g.1.2.1, g.1.2.2 ++ [(v.1, on_.1, by_.1, de.1, isV T N by_.2 wDOES, un.1, th.1, -1)]), g.2), th.2)
def pFriend (g : rgT) (p : Nat) : res (rgT × Nat) := bnd (pKnown T N (g.1.1.map (·.1)) p) fun a => bnd (pKnown T N (g.1.1.map (·.1)) a.2) fun b => if a.1 = b.1 then .inr (3, a.2) else if ¬ g.2.1.1 (6 * a.1 + b.1) = -100 then .inr (3, a.2) else bnd (pSigned T N b.2) fun v => .inl ((g.1, (fup (fup g.2.1.1 (6 * a.1 + b.1) v.1) (6 * b.1 + a.1) v.1, g.2.1.2 + 1), g.2.2), v.2)
-- formulas: code, place, units
abbrev fR : Type := res (am_S × Nat × Nat)
abbrev fF : Type := Nat → Nat → fR
/-- thread, holes, storm, day -/
def pNamed (p : Nat) : Option Nat := fst1 (fun k => isV T N p (st_nd.getD k 0)) 4
def fUnit (E : Option fF) (p u : Nat) : fR := if (isSH T N p 40 = false ∧ pNamed T N p = none ∧ ¬ tkD T N p = 2) ∨ u = 30 then .inr (err1 T N p) else if isSH T N p 40 = true then (match E with
    | none => .inr (err1 T N p)
    | some E => bnd (E (tkX T N p) (u + 1)) fun r => bnd (pMust T N (isSH T N r.2.1 41) r.2.1) fun q => .inl (r.1, q, r.2.2)) else match pNamed T N p with
    | some w => .inl ([(1, nI w)], tkX T N p, u + 1)
    | none => .inl ([(0, tkN T N p)], tkX T N p, u + 1)
/-- operands of one rank, from the left on -/
def fLoop (op : Nat → Option Int32) (A : fF) : Nat → am_S → Nat → Nat → fR
  | 0, c, p, u => .inl (c, p, u)
  | n + 1, c, p, u => match op p with
    | none => .inl (c, p, u)
    | some s => bnd (A (tkX T N p) u) fun r => fLoop op A n (c ++ r.1 ++ [(3, s)]) r.2.1 r.2.2
def fBin (op : Nat → Option Int32) (A : fF) : fF := fun p u => bnd (A p u) fun r => fLoop T N op A 31 r.1 r.2.1 r.2.2
def opT (p : Nat) : Option Int32 := if isSH T N p 42 = true ∨ isSH T N p 47 = true ∨ isSH T N p 37 = true then some (T p) else none
def opS (p : Nat) : Option Int32 := if isSH T N p 43 = true ∨ isSH T N p 45 = true then some (T p) else none
def opA (p : Nat) : Option Int32 := if isV T N p wAND = true then some 38 else none
def opO (p : Nat) : Option Int32 := if isV T N p wOR = true then some 124 else none
def opR (p : Nat) : Option Int32 := if isSH T N p 60 = true ∨ isSH T N p 62 = true ∨ isSH T N p 61 = true then some (T p) else none
def fOne (O : Option fF) (S : fF) (p u : Nat) : fR := if isV T N p wNOT = true then (match O with
    | none => .inr (err1 T N p)
    | some O => bnd (O (tkX T N p) u) fun r => .inl (r.1 ++ [(2, 0)], r.2.1, r.2.2)) else bnd (S p u) fun r => match opR T N r.2.1 with
    | none => .inl r
    | some s => bnd (S (tkX T N r.2.1) r.2.2) fun r2 => .inl (r.1 ++ r2.1 ++ [(3, s)], r2.2.1, r2.2.2)
def fSum (E : Option fF) : fF := fBin T N (opS T N) (fBin T N (opT T N) (fUnit T N E))
/-- 'either' and 'one', with f more that may be open -/
def lv : Nat → fF × fF
  | 0 => (fBin T N (opO T N) (fBin T N (opA T N) (fOne T N none (fSum T N none))), fOne T N none (fSum T N none))
  | f + 1 => (fBin T N (opO T N) (fBin T N (opA T N) (fOne T N (some (lv f).2) (fSum T N (some (lv f).1)))), fOne T N (some (lv f).2) (fSum T N (some (lv f).1)))
def pWear (g : rgT) (p : Nat) : res (rgT × Nat) := bnd ((lv T N 7).1 p 0) fun r => .inl ((g.1, g.2.1, (some r.1, r.2.2), g.2.2.2), r.2.1)
def canL (g : rgT) (p : Nat) : Bool := if isV T N p wMAN = true then decide (g.1.1.length < 6) else if isV T N p wDEED = true then decide (g.1.2.1.length < 6) else if isV T N p wBUTTON = true then decide (g.1.2.2.length < 10) else if isV T N p wFRIEND = true then decide (g.2.1.2 < 15) else if isV T N p wWEAR = true then g.2.2.1.1.isNone else if isV T N p wDAY = true then g.2.2.2.1.isNone else if isV T N p wSTORM = true then g.2.2.2.2.1.isNone else isV T N p wDRAW && g.2.2.2.2.2.isNone
def pLine (g : rgT) (p : Nat) : res (rgT × Nat) := if canL T N g p = false then .inr (err1 T N p) else if isV T N p wMAN = true then pMan T N g (tkX T N p) else if isV T N p wDEED = true then pDeed T N g (tkX T N p) else if isV T N p wBUTTON = true then pButton T N g (tkX T N p) else if isV T N p wFRIEND = true then pFriend T N g (tkX T N p) else if isV T N p wWEAR = true then pWear T N g (tkX T N p) else if isV T N p wDAY = true then bnd (pNum T N 1 24 (tkX T N p)) (fun v => .inl ((g.1, g.2.1, g.2.2.1, (some v.1, g.2.2.2.2)), v.2)) else if isV T N p wSTORM = true then bnd (pNum T N 0 100 (tkX T N p)) (fun v => .inl ((g.1, g.2.1, g.2.2.1, (g.2.2.2.1, some v.1, g.2.2.2.2.2)), v.2)) else bnd (pNum T N 0 999 (tkX T N p)) (fun v => .inl ((g.1, g.2.1, g.2.2.1, (g.2.2.2.1, g.2.2.2.2.1, some v.1)), v.2))
def pAll : Nat → rgT → Nat → res rgT
  | 0, g, _ => .inl g
  | n + 1, g, p => if tkD T N p = 0 then .inl g else bnd (pLine T N g p) fun r => bnd (pMust T N (isSH T N r.2 59) r.2) fun q => pAll n r.1 q
/-- the whole text -/
def pText : res rgT := pAll T N (N + 1) rg0 (rEnd isSp T N 0)
end Parse
