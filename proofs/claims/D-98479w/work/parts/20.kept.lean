theorem G.tab {E : JE} {f : FS} {F : JFin} {pc : Nat} {ls : List (Option Value)} {st : List Value} {ph : HP} {kc ks : Nat} {dflt : Int} {hi : Nat} {offs : Array Int} {len : Nat} {x : Int32} {tgt : Nat} (hd : decode f.2.1 pc = .ok (.tableswitch dflt 0 hi offs, len)) (ht : (pc : Int) + dflt = (tgt : Int)) (kout : x.toInt < 0 ∨ (hi : Int) < x.toInt → G E f F tgt ls st ph kc ks) (kin : ∀ k : Nat, k ≤ hi → x = nI k → ∃ (t : Nat) (off : Int), offs[k]? = some off ∧ (pc : Int) + off = (t : Int) ∧ G E f F t ls st ph kc ks) : G E f F pc ls (.int x :: st) ph kc ks := by
  by_cases h : x.toInt < 0 ∨ (hi : Int) < x.toInt
  · exact G.tableOut hd h ht (kout h)
  · have h2 := Int32.toInt_lt x
    have e : x = nI x.toInt.toNat := by rw [i_eq, t_nI (by omega)]; omega
    obtain ⟨t, off, h3, h4, k⟩ := kin x.toInt.toNat (by omega) e
    exact G.tableIn hd (by omega) (by omega) (by rw [show x.toInt - 0 = x.toInt from by omega]; exact h3) h4 k
/-! WHAT IS KEPT: the row of all that an image keeps, read as numbers -/
abbrev KR : Type := Nat → Int32
def tNat (v : Int32) : Nat := v.toInt.toNat
theorem tNat_nI {k : Nat} (h : k < 2147483648) : tNat (nI k) = k := by unfold tNat; rw [t_nI h]; omega
def kN (K : KR) : Nat := tNat (K 256)
def wOf (K : KR) (k : Nat) : Int32 := if K k = nI 3 then nI 0 else nI 2 - K (20 + k)
/-- what is asked of: a, the numbers; K, of persons -/
def aEn (K : KR) (a : Nat → Int32) : En := (fun i => if i < 10 then (a i).toInt64 else 0, fun k => if k < kN K then (wOf K k).toInt64 else -1, fun k => if k < kN K then (if K k = nI 2 then 1 else 0) else -1)
/-- the tokens of a block that begins at B -/
def bTk (K : KR) (B N : Nat) : Tk := (fun i => if i < N then K (266 + (B + i)) else nI 0, fun i => if i < N then K (3066 + (B + i)) else nI 0)
def kS (K : KR) (t : Nat) : Nat := tNat (K (259 + t))
def bOk (ord : Bool) (K : KR) (t : Nat) : Prop := kS K t ≤ 400 ∧ K (259 + t) = nI (kS K t) ∧ tkOk (bTk K (400 * t) (kS K t)) (kS K t) ∧ ∃ cs, pText ord (bTk K (400 * t) (kS K t)) (kS K t) = .inr cs
def bCls (ord : Bool) (K : KR) (t : Nat) : List Cl := match pText ord (bTk K (400 * t) (kS K t)) (kS K t) with
  | .inl _ => []
  | .inr cs => cs.map (fun c => c.2)
def tellsOf (K : KR) (head : Nat) (a : Nat → Int32) (high without : Nat) : Int32 := if K 258 = -1 then nI without else (zTells (bCls false K (tNat (K 258))) head (aEn K a) (nI high).toInt64 (nI without).toInt64).toInt32
/-- persons: where, until, heard, road, land -/
def kPer (K : KR) (p : Nat) : Prop := (∃ w, w < 4 ∧ K p = nI w) ∧ (K p = nI 1 → ∃ t, t ≤ 1100 ∧ K (10 + p) = nI t) ∧ (∃ h, h < 3 ∧ K (20 + p) = nI h) ∧ (∃ r, r ≤ 30 ∧ K (34 + 2 * p) = nI r) ∧ (∃ l, l < 4 ∧ K (34 + 2 * p + 1) = nI l)
def kNum (K : KR) (b : Nat) : Prop := (∃ v, v ≤ b ∧ K 30 = nI v) ∧ (∃ v, v ≤ b ∧ K 31 = nI v) ∧ (∃ v, v ≤ 999 * b ∧ K 32 = nI v) ∧ (∃ v, v ≤ 999 ∧ K 33 = nI v)
def kTalk (K : KR) (n : Nat) : Prop := ∃ T : Nat → Nat → Bool, (∀ p q, p < 10 → q < 10 → K (54 + 10 * p + q) = bI (T p q)) ∧ (∀ p q, T p q = T q p) ∧ (∀ p, T p p = false) ∧ ∀ p q, n ≤ p → T p q = false
def kLaw (K : KR) : Prop := ∃ t, t ≤ 6 ∧ K 257 = nI t ∧ (K 258 = -1 ∨ ∃ f, f < t ∧ K 258 = nI f) ∧ ∀ i, i < t → bOk false K i
def KOk (K : KR) (b n : Nat) : Prop := (n ≤ 10 ∧ K 256 = nI n) ∧ (∀ p, p < n → kPer K p) ∧ kNum K b ∧ kTalk K n ∧ (∀ d, d < 100 → ∃ v : Bool, K (154 + d) = bI v) ∧ (∃ v, v ≤ 10 ∧ K 254 = nI v) ∧ (∃ v, v ≤ 9 ∧ K 255 = nI v) ∧ kLaw K
theorem KOk.n {K : KR} {b n : Nat} (h : KOk K b n) : kN K = n := by unfold kN; rw [h.1.2, tNat_nI (by have := h.1.1; omega)]
theorem KOk.w {K : KR} {b n p : Nat} (h : KOk K b n) (hp : p < n) : 0 ≤ (wOf K p).toInt ∧ (wOf K p).toInt ≤ 2 := by
  obtain ⟨v, hv, e⟩ := (h.2.1 p hp).2.2.1
  unfold wOf
  split
  · rw [t_nI (by omega)]; omega
  · rw [e, t_sub (by omega) (by omega)]; omega
theorem aEn_ok {K : KR} {b n : Nat} {a : Nat → Int32} (h : KOk K b n) (ha : ∀ i, i < 10 → -1000000000 ≤ (a i).toInt ∧ (a i).toInt ≤ 1000000000) : enOk (aEn K a) := by
  intro i
  have e1 : (-1 : Int64).toInt = -1 := by decide
  have e0 : (0 : Int64).toInt = 0 := by decide
  have e2 : (1 : Int64).toInt = 1 := by decide
  refine ⟨?_, ?_, ?_⟩
  · rw [show (aEn K a).1 i = if i < 10 then (a i).toInt64 else 0 from rfl]
    split
    · rename_i q; rw [i64_t]; exact ha i q
    · rw [e0]; omega
  · rw [show (aEn K a).2.1 i = if i < kN K then (wOf K i).toInt64 else -1 from rfl]
    split
    · rename_i q
      rw [h.n] at q
      have := h.w q
      rw [i64_t]; omega
    · rw [e1]; omega
  · rw [show (aEn K a).2.2 i = if i < kN K then (if K i = nI 2 then (1 : Int64) else 0) else -1 from rfl]
    split
    · split
      · rw [e2]; omega
      · rw [e0]; omega
    · rw [e1]; omega
theorem pCls_on {ord : Bool} {tk : Tk} {k pos lv : Nat} {acc cs : List (Nat × Cl)} {p l : Nat} (h : pCls ord tk (k + 1) acc pos lv = .inr (cs, p, l)) : ∃ c p1 l1, pCl ord tk pos lv = .inr (c, p1, l1) ∧ (tk.1 p1 = nI 159 ∧ pCls ord tk k (acc ++ [(pos, c)]) (p1 + 1) l1 = .inr (cs, p, l) ∨ ¬ tk.1 p1 = nI 159 ∧ cs = acc ++ [(pos, c)] ∧ p = p1 ∧ l = l1) := by
  unfold pCls at h
  cases h3 : pCl ord tk pos lv with
  | inl x => rw [h3] at h; cases h
  | inr x =>
    obtain ⟨c, p1, l1⟩ := x
    rw [h3] at h
    dsimp only at h
    split at h
    · rename_i h4
      exact ⟨c, p1, l1, rfl, Or.inl ⟨h4, h⟩⟩
    · rename_i h4
      cases h
      exact ⟨c, _, _, rfl, Or.inr ⟨h4, rfl, rfl, rfl⟩⟩
theorem pIf_of {ord : Bool} {tk : Tk} {h : Nat} {s : Option Sm} {n : Int32} {pos lv : Nat} {c : Cl} {p l : Nat} (q : pIf ord tk h s n pos lv = .inr (c, p, l)) : (tk.1 pos = nI 6 ∧ ∃ t, pTest ord tk 8 (pos + 1) lv = .inr (t, p, l) ∧ c = (h, s, n, some t)) ∨ (¬ tk.1 pos = nI 6 ∧ c = (h, s, n, none) ∧ p = pos ∧ l = lv) := by
  unfold pIf at q
  split at q
  · rename_i h1
    cases h3 : pTest ord tk 8 (pos + 1) lv with
    | inl x => rw [h3] at q; cases q
    | inr x =>
      obtain ⟨t, p1, l1⟩ := x
      rw [h3] at q
      cases q
      exact Or.inl ⟨h1, t, rfl, rfl⟩
  · rename_i h1
    cases q
    exact Or.inr ⟨h1, rfl, rfl, rfl⟩
theorem pLawCl_of {tk : Tk} {pos lv : Nat} {c : Cl} {p l : Nat} (q : pLawCl tk pos lv = .inr (c, p, l)) : ∃ (h : Nat) (s : Option Sm) (p1 l1 : Nat), 1 ≤ h ∧ h ≤ 5 ∧ tk.1 pos = nI h ∧ (h = 5 ∧ s = none ∧ p1 = pos + 1 ∧ l1 = lv ∨ h ≤ 4 ∧ ∃ s1, s = some s1 ∧ pSum false tk 8 (pos + 1) lv = .inr (s1, p1, l1)) ∧ pIf false tk h s 1 p1 l1 = .inr (c, p, l) := by
  unfold pLawCl at q
  split at q
  · rename_i h1
    obtain ⟨k, hk, ek⟩ := t_of (p := tk.1 pos) (n := 5) (by omega) (by omega)
    have e2 : (tk.1 pos).toInt.toNat = k := by rw [ek, t_nI (by omega)]; omega
    rw [ek, t_nI (by omega)] at h1
    cases h3 : pSum false tk 8 (pos + 1) lv with
    | inl x => rw [h3] at q; cases q
    | inr x =>
      obtain ⟨s, p1, l1⟩ := x
      rw [h3, e2] at q
      exact ⟨k, some s, p1, l1, by omega, by omega, ek, Or.inr ⟨by omega, s, rfl, rfl⟩, q⟩
  · split at q
    · rename_i h2
      exact ⟨5, none, pos + 1, lv, by omega, by omega, h2, Or.inl ⟨rfl, rfl, rfl, rfl⟩, q⟩
    · cases q
theorem zTells_snoc {cs : List Cl} {c : Cl} {head : Nat} {e : En} {high without : Int64} : zTells (cs ++ [c]) head e high without = if c.1 = head ∧ zHolds c.2.2.2 e = true then (match zTold c.2.1 e with
  | none => zTells cs head e high without
  | some v => zClamp high v) else zTells cs head e high without := by
  unfold zTells
  rw [List.foldl_append]
  rfl
/-- where clauses end -/
theorem pCls_N {tk : Tk} {N : Nat} {ord : Bool} {cs : List (Nat × Cl)} (h : pText ord tk N = .inr cs) : ∃ p l, pCls ord tk 12 [] 0 0 = .inr (cs, p, l) ∧ N ≤ p := by
  unfold pText at h
  cases h3 : pCls ord tk 12 [] 0 0 with
  | inl x => rw [h3] at h; cases h
  | inr x =>
    obtain ⟨c, p1, l1⟩ := x
    rw [h3] at h
    dsimp only at h
    split at h
    · cases h
    · cases h
      exact ⟨p1, l1, rfl, by omega⟩
/-- a counted number of what is kept -/
def kRoad (K : KR) (p : Nat) : Nat := tNat (K (34 + 2 * p))
def kLand (K : KR) (p : Nat) : Nat := tNat (K (34 + 2 * p + 1))
def kHeard (K : KR) (p : Nat) : Nat := tNat (K (20 + p))
def kWhere (K : KR) (p : Nat) : Nat := tNat (K p)
def kTill (K : KR) (p : Nat) : Nat := tNat (K (10 + p))
def kDay (K : KR) : Nat := tNat (K 33)
theorem kn_of {x : Int32} {c : Nat} (h : ∃ v, v ≤ c ∧ x = nI v) (hc : c < 2147483648) : x = nI (tNat x) ∧ tNat x ≤ c := by
  obtain ⟨v, hv, rfl⟩ := h
  rw [tNat_nI (by omega)]
  exact ⟨rfl, hv⟩
theorem kn_lt {x : Int32} {c : Nat} (h : ∃ v, v < c ∧ x = nI v) (hc : c < 2147483648) : x = nI (tNat x) ∧ tNat x < c := by
  obtain ⟨v, hv, rfl⟩ := h
  rw [tNat_nI (by omega)]
  exact ⟨rfl, hv⟩
section Num
variable {K : KR} {b n p : Nat}
theorem KOk.road (h : KOk K b n) (hp : p < n) : K (34 + 2 * p) = nI (kRoad K p) ∧ kRoad K p ≤ 30 := kn_of (h.2.1 p hp).2.2.2.1 (by decide)
theorem KOk.land (h : KOk K b n) (hp : p < n) : K (34 + 2 * p + 1) = nI (kLand K p) ∧ kLand K p < 4 := kn_lt (h.2.1 p hp).2.2.2.2 (by decide)
theorem KOk.heard (h : KOk K b n) (hp : p < n) : K (20 + p) = nI (kHeard K p) ∧ kHeard K p < 3 := kn_lt (h.2.1 p hp).2.2.1 (by decide)
theorem KOk.wher (h : KOk K b n) (hp : p < n) : K p = nI (kWhere K p) ∧ kWhere K p < 4 := kn_lt (h.2.1 p hp).1 (by decide)
theorem KOk.till (h : KOk K b n) (hp : p < n) (hw : K p = nI 1) : K (10 + p) = nI (kTill K p) ∧ kTill K p ≤ 1100 := kn_of ((h.2.1 p hp).2.1 hw) (by decide)
theorem KOk.day (h : KOk K b n) : K 33 = nI (kDay K) ∧ kDay K ≤ 999 := kn_of h.2.2.1.2.2.2 (by decide)
end Num
def fogOf (K : KR) (d : Nat) : Bool := if d < 100 then decide (K (154 + d) = nI 1) else false
theorem KOk.fog {K : KR} {b n d : Nat} (h : KOk K b n) (hd : d < 100) : K (154 + d) = bI (fogOf K d) := by
  obtain ⟨v, hv⟩ := h.2.2.2.2.1 d hd
  unfold fogOf
  rw [if_pos hd, hv]
  cases v <;> decide
/-- the numbers that a law is asked of -/
def oI (o : Option Nat) : Int32 := match o with
  | none => -1
  | some q => nI q
def aSets (K : KR) (p : Nat) (heard : Int32) (other : Option Nat) (day fog : Int32) : Nat → Int32 := fun i => match i with
  | 0 => nI p
  | 1 => K (34 + 2 * p)
  | 2 => K (34 + 2 * p + 1)
  | 3 => heard
  | 4 => oI other
  | 5 => match other with
    | none => -1
    | some q => K (34 + 2 * q + 1)
  | 6 => match other with
    | none => -1
    | some q => K (34 + 2 * q)
  | 7 => fog
  | 8 => K 255
  | 9 => day
  | _ => 0
def aNow (K : KR) (p : Nat) : Nat → Int32 := aSets K p (K (20 + p)) none (K 33) (bI (fogOf K (kDay K)))
def kTakes (K : KR) (p : Nat) : Int32 := tellsOf K 1 (aNow K p) 60 (kRoad K p)
def kCosts (K : KR) (p : Nat) : Int32 := tellsOf K 2 (aNow K p) 999 (kRoad K p)
def kLodges (K : KR) (p : Nat) : Int32 := tellsOf K 3 (aNow K p) 99 1
def kBarred (K : KR) (p : Nat) (heard : Int32) (day : Int32) (fog : Bool) : Bool := decide (tellsOf K 5 (aSets K p heard none day (bI fog)) 1 0 = nI 1)
def kSpoils (K : KR) (p q : Nat) : Int32 := tellsOf K 4 (aSets K p (-1) (some q) (-1) (-1)) 2 1
theorem bTk_ext {K K' : KR} {B N : Nat} (h : ∀ i, i < N → K (266 + (B + i)) = K' (266 + (B + i)) ∧ K (3066 + (B + i)) = K' (3066 + (B + i))) : bTk K B N = bTk K' B N := by
  unfold bTk
  refine Prod.ext (funext fun i => ?_) (funext fun i => ?_)
  · show (if _ then _ else _) = (if _ then _ else _)
    split
    · rename_i q; exact (h i q).1
    · rfl
  · show (if _ then _ else _) = (if _ then _ else _)
    split
    · rename_i q; exact (h i q).2
    · rfl
theorem zClamp_r {high v : Int64} {n : Nat} (hh : high.toInt = n) : 0 ≤ (zClamp high v).toInt ∧ (zClamp high v).toInt ≤ n := by
  have e0 : (0 : Int64).toInt = 0 := by decide
  unfold zClamp
  simp only [l_lt, hh, e0]
  split
  · rw [e0]; omega
  · split
    · rw [hh]; omega
    · omega
theorem zTells_r {cs : List Cl} {head : Nat} {e : En} {high without : Int64} {n : Nat} (hh : high.toInt = n) : ∀ {w : Int64}, w = without → (0 ≤ w.toInt ∧ w.toInt ≤ n) → 0 ≤ (zTells cs head e high w).toInt ∧ (zTells cs head e high w).toInt ≤ n := by
  unfold zTells
  induction cs with
  | nil => intro w _ hw; exact hw
  | cons c cs ih =>
    intro w hw1 hw
    rw [List.foldl_cons]
    have key : ∀ u : Int64, (0 ≤ u.toInt ∧ u.toInt ≤ n) → 0 ≤ (List.foldl (fun told c => if c.1 = head ∧ zHolds c.2.2.2 e = true then (match zTold c.2.1 e with
  | none => told
  | some v => zClamp high v) else told) u cs).toInt ∧ (List.foldl (fun told c => if c.1 = head ∧ zHolds c.2.2.2 e = true then (match zTold c.2.1 e with
  | none => told
  | some v => zClamp high v) else told) u cs).toInt ≤ n := by
      clear ih
      induction cs with
      | nil => intro u hu; exact hu
      | cons c cs ih2 =>
        intro u hu
        rw [List.foldl_cons]
        refine ih2 _ ?_
        split
        · split
          · exact hu
          · exact zClamp_r hh
        · exact hu
    refine key _ ?_
    split
    · split
      · exact hw
      · exact zClamp_r hh
    · exact hw
theorem i64_nI {k : Nat} (h : k < 2147483648) : (nI k).toInt64.toInt = k := by rw [i64_t, t_nI h]
theorem tellsOf_r {K : KR} {head high without : Nat} {a : Nat → Int32} (hw : without ≤ high) (hh : high < 2147483648) : tellsOf K head a high without = nI (tNat (tellsOf K head a high without)) ∧ tNat (tellsOf K head a high without) ≤ high := by
  unfold tellsOf
  split
  · rw [tNat_nI (by omega)]; exact ⟨rfl, hw⟩
  · have h := zTells_r (cs := bCls false K (tNat (K 258))) (head := head) (e := aEn K a) (high := (nI high).toInt64) (n := high) (i64_nI hh) (w := (nI without).toInt64) rfl (by rw [i64_nI (by omega)]; omega)
    generalize zTells _ _ _ _ _ = z at h ⊢
    have e : z.toInt32.toInt = z.toInt := by
      rw [Int64.toInt_toInt32]
      exact Int.bmod_eq_of_le (by omega) (by omega)
    have e2 : z.toInt32 = nI z.toInt.toNat := by rw [i_eq, e, t_nI (by omega)]; omega
    rw [e2, tNat_nI (by omega)]
    exact ⟨rfl, by omega⟩
