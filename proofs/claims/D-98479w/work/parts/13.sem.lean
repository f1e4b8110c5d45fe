/-! MEANING: what texts say, as functions of their tokens; nothing of the machine -/
/-- what is asked of: the words' numbers; of a person, worth and whether here -/
abbrev En : Type := (Nat → Int64) × (Nat → Int64) × (Nat → Int64)
abbrev Sm : Type := En → Option Int64
abbrev Ts : Type := En → Option Bool
/-- tokens by place: codes, values -/
abbrev Tk : Type := (Nat → Int32) × (Nat → Int32)
/-- the place of the token that is wrong; or what was read, the next place, the leaves so far -/
abbrev Rs (α : Type) : Type := Nat ⊕ (α × Nat × Nat)
def big : Int64 := 1000000000
def zWithin (v : Int64) : Option Int64 := if big < v ∨ v < -big then none else some v
def zBin (op : Int32) (a b : Sm) : Sm := fun e => match a e with
  | none => none
  | some v => match b e with
    | none => none
    | some w => if op = nI 147 then (if w = 0 then none else some (v / w)) else if op = nI 137 then (if w = 0 then none else some (v - v / w * w)) else if op = nI 143 then zWithin (v + w) else if op = nI 145 then zWithin (v - w) else zWithin (v * w)
def zCmp (op : Int32) (a b : Sm) : Ts := fun e => match a e with
  | none => none
  | some v => match b e with
    | none => none
    | some w => some (if op = nI 160 then decide (v < w) else if op = nI 162 then decide (w < v) else decide (v = w))
def zNot (b : Bool) (t : Ts) : Ts := fun e => match t e with
  | none => none
  | some v => some (v != b)
def zAnd (a b : Ts) : Ts := fun e => match a e with
  | none => none
  | some v => if v then b e else some false
def zOr (a b : Ts) : Ts := fun e => match a e with
  | none => none
  | some v => if v then some true else b e
def wLo (ord : Bool) : Nat := if ord then 19 else 10
def wHi (ord : Bool) : Nat := if ord then 25 else 19
/-- a leaf: a number or a word -/
def zLeaf (ord : Bool) (c v : Int32) : Sm := fun e => if c = nI 50 then some v.toInt64 else some (e.1 (c.toInt.toNat - wLo ord))
def zPers (c v : Int32) : Sm := fun e => some (if c = nI 24 then e.2.1 v.toInt.toNat else e.2.2 v.toInt.toNat)
def isLeaf (ord : Bool) (c v : Int32) : Bool := decide (c = nI 50 ∧ v.toInt ≤ 1000 ∨ ((wLo ord : Int) ≤ c.toInt ∧ c.toInt ≤ (wHi ord : Int)))
/-- a part; sub: what stands in brackets (none: too deep) -/
def pPart (ord : Bool) (tk : Tk) (sub : Option (Nat → Nat → Rs Sm)) (pos lv : Nat) : Rs Sm :=
  if tk.1 pos = nI 191 then
    match sub with
    | none => .inl pos
    | some g => match g (pos + 1) lv with
      | .inl e => .inl e
      | .inr (s, p, l) => if tk.1 p = nI 193 then .inr (s, p + 1, l) else .inl p
  else if isLeaf ord (tk.1 pos) (tk.2 pos) then
    if lv = 50 then .inl pos
    else if tk.1 pos = nI 24 ∨ tk.1 pos = nI 25 then
      if tk.1 (pos + 1) = nI 50 ∧ 0 ≤ (tk.2 (pos + 1)).toInt ∧ (tk.2 (pos + 1)).toInt ≤ 9 then .inr (zPers (tk.1 pos) (tk.2 (pos + 1)), pos + 2, lv + 1) else .inl (pos + 1)
    else .inr (zLeaf ord (tk.1 pos) (tk.2 pos), pos + 1, lv + 1)
  else .inl pos
def isMul (c : Int32) : Bool := decide (c = nI 142 ∨ c = nI 147 ∨ c = nI 137)
def isAdd (c : Int32) : Bool := decide (c = nI 143 ∨ c = nI 145)
/-- a row of the same kind, joined by signs, from the left -/
def pRow {α : Type} (tk : Tk) (sign : Int32 → Bool) (join : Int32 → α → α → α) (one : Nat → Nat → Rs α) : Nat → α → Nat → Nat → Rs α
  | 0, _, pos, _ => .inl pos
  | n + 1, acc, pos, lv => if sign (tk.1 pos) then (match one (pos + 1) lv with
      | .inl e => .inl e
      | .inr (s, p, l) => pRow tk sign join one n (join (tk.1 pos) acc s) p l) else .inr (acc, pos, lv)
def pRows {α : Type} (tk : Tk) (sign : Int32 → Bool) (join : Int32 → α → α → α) (one : Nat → Nat → Rs α) (pos lv : Nat) : Rs α := match one pos lv with
  | .inl e => .inl e
  | .inr (s, p, l) => pRow tk sign join one 402 s p l
def pTerm (ord : Bool) (tk : Tk) (sub : Option (Nat → Nat → Rs Sm)) : Nat → Nat → Rs Sm := pRows tk isMul zBin (pPart ord tk sub)
/-- a sum, r: how many more brackets may be opened -/
def pSum (ord : Bool) (tk : Tk) : Nat → Nat → Nat → Rs Sm
  | 0 => pRows tk isAdd zBin (pTerm ord tk none)
  | r + 1 => pRows tk isAdd zBin (pTerm ord tk (some (pSum ord tk r)))
def isCmp (c : Int32) : Bool := decide (c = nI 160 ∨ c = nI 162 ∨ c = nI 161)
/-- behind the nots: a test in brackets, or two sums compared -/
def pPos (tk : Tk) (sm : Nat → Nat → Rs Sm) (sub : Option (Nat → Nat → Rs Ts)) (pos lv : Nat) : Rs Ts :=
  if tk.1 pos = nI 140 then
    match sub with
    | none => .inl pos
    | some g => match g (pos + 1) lv with
      | .inl e => .inl e
      | .inr (s, p, l) => if tk.1 p = nI 141 then .inr (s, p + 1, l) else .inl p
  else match sm pos lv with
    | .inl e => .inl e
    | .inr (a, p, l) => if isCmp (tk.1 p) then (match sm (p + 1) l with
        | .inl e => .inl e
        | .inr (b, p2, l2) => .inr (zCmp (tk.1 p) a b, p2, l2)) else .inl p
/-- nots: whether an odd number, and the place behind them -/
def pNots (tk : Tk) : Nat → Bool → Nat → Bool × Nat
  | 0, b, pos => (b, pos)
  | n + 1, b, pos => if tk.1 pos = nI 9 then pNots tk n (!b) (pos + 1) else (b, pos)
def pPlain (tk : Tk) (sm : Nat → Nat → Rs Sm) (sub : Option (Nat → Nat → Rs Ts)) (pos lv : Nat) : Rs Ts :=
  match pPos tk sm sub (pNots tk 402 false pos).2 lv with
  | .inl e => .inl e
  | .inr (t, p, l) => .inr (zNot (pNots tk 402 false pos).1 t, p, l)
def isAnd (c : Int32) : Bool := decide (c = nI 8)
def isOr (c : Int32) : Bool := decide (c = nI 7)
def pBoth (tk : Tk) (sm : Nat → Nat → Rs Sm) (sub : Option (Nat → Nat → Rs Ts)) : Nat → Nat → Rs Ts := pRows tk isAnd (fun _ => zAnd) (pPlain tk sm sub)
def pTest (ord : Bool) (tk : Tk) : Nat → Nat → Nat → Rs Ts
  | 0 => pRows tk isOr (fun _ => zOr) (pBoth tk (pSum ord tk 0) none)
  | r + 1 => pRows tk isOr (fun _ => zOr) (pBoth tk (pSum ord tk (r + 1)) (some (pTest ord tk r)))
/-- a clause: its head, its sum, how often, its test -/
abbrev Cl : Type := Nat × Option Sm × Int32 × Option Ts
def pIf (ord : Bool) (tk : Tk) (h : Nat) (s : Option Sm) (n : Int32) (pos lv : Nat) : Rs Cl :=
  if tk.1 pos = nI 6 then (match pTest ord tk 8 (pos + 1) lv with
    | .inl e => .inl e
    | .inr (t, p, l) => .inr ((h, s, n, some t), p, l)) else .inr ((h, s, n, none), pos, lv)
def pLawCl (tk : Tk) (pos lv : Nat) : Rs Cl :=
  if 1 ≤ (tk.1 pos).toInt ∧ (tk.1 pos).toInt ≤ 4 then (match pSum false tk 8 (pos + 1) lv with
    | .inl e => .inl e
    | .inr (s, p, l) => pIf false tk (tk.1 pos).toInt.toNat (some s) 1 p l)
  else if tk.1 pos = nI 5 then pIf false tk 5 none 1 (pos + 1) lv else .inl pos
def pTimes (tk : Tk) (h : Nat) (s : Option Sm) (pos lv : Nat) : Rs Cl :=
  if tk.1 pos = nI 29 then (if tk.1 (pos + 1) = nI 50 ∧ 1 ≤ (tk.2 (pos + 1)).toInt ∧ (tk.2 (pos + 1)).toInt ≤ 20 then pIf true tk h s (tk.2 (pos + 1)) (pos + 2) lv else .inl (pos + 1))
  else pIf true tk h s 1 pos lv
def pOrdCl (tk : Tk) (pos lv : Nat) : Rs Cl :=
  if tk.1 pos = nI 26 ∨ tk.1 pos = nI 27 then (match pSum true tk 8 (pos + 1) lv with
    | .inl e => .inl e
    | .inr (s, p, l) => pTimes tk (tk.1 pos).toInt.toNat (some s) p l)
  else if tk.1 pos = nI 28 then pTimes tk 28 none (pos + 1) lv else .inl pos
def pCl (ord : Bool) (tk : Tk) : Nat → Nat → Rs Cl := if ord then pOrdCl tk else pLawCl tk
/-- clauses parted by semicolons; k: how many more may come; with the place where each begins -/
def pCls (ord : Bool) (tk : Tk) : Nat → List (Nat × Cl) → Nat → Nat → Rs (List (Nat × Cl))
  | 0, _, pos, _ => .inl pos
  | k + 1, acc, pos, lv => match pCl ord tk pos lv with
    | .inl e => .inl e
    | .inr (c, p, l) => if tk.1 p = nI 159 then pCls ord tk k (acc ++ [(pos, c)]) (p + 1) l else .inr (acc ++ [(pos, c)], p, l)
/-- a whole text of N tokens -/
def pText (ord : Bool) (tk : Tk) (N : Nat) : Nat ⊕ List (Nat × Cl) := match pCls ord tk 12 [] 0 0 with
  | .inl e => .inl e
  | .inr (cs, p, _) => if p < N then .inl p else .inr cs
/-- whether a clause holds, and what it tells -/
def zHolds (t : Option Ts) (e : En) : Bool := match t with
  | none => true
  | some t => t e == some true
def zTold (s : Option Sm) (e : En) : Option Int64 := match s with
  | none => some 1
  | some s => s e
def zClamp (high v : Int64) : Int64 := if v < 0 then 0 else if high < v then high else v
/-- what the last clause with a head that holds tells -/
def zTells (cs : List Cl) (head : Nat) (e : En) (high without : Int64) : Int64 := cs.foldl (fun told c => if c.1 = head ∧ zHolds c.2.2.2 e = true then (match zTold c.2.1 e with
  | none => told
  | some v => zClamp high v) else told) without
