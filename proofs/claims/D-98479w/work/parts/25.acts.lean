/-! ACTS: what they do to the row of what is kept -/
theorem bit_i {c p : Nat} (hc : c < 2147483648) (hp : p < 31) : ((nI c >>> (nI p &&& 31)) &&& nI 1 = nI 1) ↔ c.testBit p = true := by
  have h1 : nI p &&& 31 = nI p := by rw [pk_andN (by omega) 5 (by decide), Nat.mod_eq_of_lt (by omega)]
  have h2 : nI c >>> nI p = nI (c / 2 ^ p) := by
    refine pk_shrN (by omega) (nI p) p ?_
    have : ∀ p : Nat, p < 31 → ((nI p).toBitVec.smod 32).toNat = p := by decide
    exact this p hp
  rw [h1, h2, pk_andN (Nat.lt_of_le_of_lt (Nat.div_le_self _ _) (by omega)) 1 (by decide), nI_inj (by omega) (by omega), Nat.testBit_eq_decide_div_mod_eq, decide_eq_true_iff, Nat.pow_one]
theorem c_isIn (E : JE) (c p : Nat) (hc : c < 2147483648) (hp : p < 31) : SC E fX6_isIn [.int (nI c), .int (nI p)] (sI fun r => r = bI (c.testBit p)) := by
  intro ph
  refine Ct.mono ?_ (fun _ _ _ h => h) (c_X6_isIn E (nI c) (nI p) ph)
  rintro v ph' ⟨e, r, rfl, h⟩
  refine ⟨e, r, rfl, ?_⟩
  rw [h]
  cases hb : c.testBit p with
  | true => rw [decide_eq_true ((bit_i hc hp).mpr hb)]
  | false => rw [decide_eq_false (fun z => by rw [(bit_i hc hp).mp z] at hb; cases hb)]
def kMov (K : KR) (p : Nat) : Prop := (∃ w, w < 4 ∧ K p = nI w) ∧ (K p = nI 1 → ∃ t, t ≤ 1100 ∧ K (10 + p) = nI t) ∧ (∃ h, h < 3 ∧ K (20 + p) = nI h)
theorem bOk_ext {ord : Bool} {K K' : KR} {t : Nat} (h : ∀ i, 259 ≤ i → K' i = K i) (hb : bOk ord K t) : bOk ord K' t := by
  unfold bOk at *
  have e1 : kS K' t = kS K t := by unfold kS; rw [h _ (by omega)]
  have e2 : bTk K' (400 * t) (kS K t) = bTk K (400 * t) (kS K t) := bTk_ext (fun i _ => ⟨h _ (by omega), h _ (by omega)⟩)
  rw [e1, e2, h _ (by omega)]
  exact hb
theorem KOk.mov {K K' : KR} {b b' n : Nat} (h : KOk K b n) (he : ∀ i, 34 ≤ i → K' i = K i) (hp : ∀ p, p < n → kMov K' p) (hn : kNum K' b') : KOk K' b' n := by
  obtain ⟨h1, h2, h3, h4, h5, h6, h7, t, h8, h9, h10, h11⟩ := h
  refine ⟨⟨h1.1, by rw [he _ (by omega)]; exact h1.2⟩, fun p q => ?_, hn, ?_, fun d q => ?_, by rw [he _ (by omega)]; exact h6, by rw [he _ (by omega)]; exact h7, t, h8, by rw [he _ (by omega)]; exact h9, by rw [he _ (by omega)]; exact h10, fun i hi => bOk_ext (fun j hj => he j (by omega)) (h11 i hi)⟩
  · obtain ⟨a1, a2, a3⟩ := hp p q
    refine ⟨a1, a2, a3, ?_, ?_⟩
    · rw [he _ (by omega)]; exact (h2 p q).2.2.2.1
    · rw [he _ (by omega)]; exact (h2 p q).2.2.2.2
  · obtain ⟨T, t1, t2⟩ := h4
    exact ⟨T, fun p q hp hq => by rw [he _ (by omega)]; exact t1 p q hp hq, t2⟩
  · rw [he _ (by omega)]; exact h5 d q
theorem KOk.movs {K : KR} {b n p : Nat} (h : KOk K b n) (hp : p < n) : kMov K p := ⟨(h.2.1 p hp).1, (h.2.1 p hp).2.1, (h.2.1 p hp).2.2.1⟩
def kSpend (K : KR) (p : Nat) : KR := upd K 32 (K 32 + if K p = nI 2 then kLodges K p else nI 0)
def kSpendN (K : KR) : Nat → KR
  | 0 => K
  | p + 1 => kSpend (kSpendN K p) p
def kArr (K : KR) (p : Nat) : KR := if K p = nI 1 ∧ K (10 + p) ≤ K 33 then upd (upd K p (nI 2)) (10 + p) (-1) else K
def kArrN (K : KR) : Nat → KR
  | 0 => K
  | p + 1 => kArr (kArrN K p) p
def kNightA (K : KR) (n : Nat) : KR := upd (kSpendN K n) 33 (kSpendN K n 33 + nI 1)
def kNight (K : KR) (n : Nat) : KR := kArrN (kNightA K n) n
theorem KOk.spend {K : KR} {b n : Nat} (h : KOk K b n) : ∀ p, p ≤ n → (∀ i, ¬ i = 32 → kSpendN K p i = K i) ∧ ∃ v, v ≤ 999 * b + 99 * p ∧ kSpendN K p 32 = nI v
  | 0, _ => ⟨fun _ _ => rfl, h.2.2.1.2.2.1⟩
  | p + 1, hp => by
    obtain ⟨h1, v, hv, e⟩ := KOk.spend h p (by omega)
    refine ⟨fun i hi => (pk_un hi).trans (h1 i hi), ?_⟩
    rw [show kSpendN K (p + 1) = kSpend (kSpendN K p) p from rfl]
    unfold kSpend
    rw [pk_us, e]
    split
    · obtain ⟨r1, r2⟩ := tellsOf_r (K := kSpendN K p) (head := 3) (high := 99) (without := 1) (a := aNow (kSpendN K p) p) (by omega) (by omega)
      rw [show kLodges (kSpendN K p) p = _ from r1, nI_add]
      exact ⟨_, by omega, rfl⟩
    · rw [nI_add]
      exact ⟨_, by omega, rfl⟩
theorem KOk.spent {K : KR} {b n p : Nat} (h : KOk K b n) (hp : p ≤ n) : KOk (kSpendN K p) (b + 1) n := by
  obtain ⟨h1, v, hv, e⟩ := h.spend p hp
  have h10 := h.1.1
  refine h.mov (fun i hi => h1 i (by omega)) (fun q hq => ?_) ?_
  · have := h.movs hq
    unfold kMov at *
    rw [h1 _ (by omega), h1 _ (by omega), h1 _ (by omega)]
    exact this
  · obtain ⟨⟨a, ha, ea⟩, ⟨a2, ha2, ea2⟩, -, a4⟩ := h.2.2.1
    unfold kNum
    rw [h1 30 (by omega), h1 31 (by omega), h1 33 (by omega)]
    exact ⟨⟨a, by omega, ea⟩, ⟨a2, by omega, ea2⟩, ⟨v, by omega, e⟩, a4⟩
theorem KOk.nightA {K : KR} {b n : Nat} (h : KOk K b n) (hd : kDay K < 999) : KOk (kNightA K n) (b + 1) n := by
  have h2 := h.spent (Nat.le_refl n)
  have h10 := h.1.1
  have e33 : kSpendN K n 33 = nI (kDay K) := ((h.spend n (Nat.le_refl n)).1 33 (by omega)).trans h.day.1
  refine h2.mov (fun i hi => pk_un (by omega)) (fun q hq => ?_) ?_
  · have := h2.movs hq
    unfold kMov kNightA at *
    rw [pk_un (by omega), pk_un (by omega), pk_un (by omega)]
    exact this
  · obtain ⟨a1, a2, a3, -⟩ := h2.2.2.1
    unfold kNum kNightA
    rw [pk_un (by omega), pk_un (by omega), pk_un (by omega), pk_us, e33, nI_add]
    exact ⟨a1, a2, a3, _, by omega, rfl⟩
theorem KOk.arr {K : KR} {b n p : Nat} (h : KOk K b n) (hp : p < n) : KOk (kArr K p) b n := by
  have h10 := h.1.1
  unfold kArr
  split
  · refine h.mov (fun i hi => (pk_un (by omega)).trans (pk_un (by omega))) (fun q hq => ?_) ?_
    · have := h.movs hq
      by_cases e : q = p
      · subst e
        refine ⟨⟨2, by omega, (pk_un (by omega)).trans pk_us⟩, fun z => ?_, ?_⟩
        · rw [pk_un (by omega), pk_us, nI_inj (by omega) (by omega)] at z
          omega
        · rw [pk_un (by omega), pk_un (by omega)]
          exact this.2.2
      · unfold kMov at *
        rw [pk_un (by omega), pk_un (by omega), pk_un (by omega), pk_un (by omega), pk_un (by omega), pk_un (by omega)]
        exact this
    · have := h.2.2.1
      unfold kNum at *
      rw [pk_un (by omega), pk_un (by omega), pk_un (by omega), pk_un (by omega), pk_un (by omega), pk_un (by omega), pk_un (by omega), pk_un (by omega)]
      exact this
  · exact h
theorem KOk.arrN {K : KR} {b n : Nat} (h : KOk K b n) : ∀ p, p ≤ n → KOk (kArrN K p) b n
  | 0, _ => h
  | p + 1, hp => (KOk.arrN h p (by omega)).arr (by omega)
theorem KOk.night {K : KR} {b n : Nat} (h : KOk K b n) (hd : kDay K < 999) : KOk (kNight K n) (b + 1) n := (h.nightA hd).arrN n (Nat.le_refl n)
/-- a crew has been there -/
def kGone (K : KR) (c : Nat) : Nat → KR
  | 0 => K
  | p + 1 => if c.testBit p then upd (kGone K c p) p (nI 3) else kGone K c p
def kLess (a b : Int32) : Int32 := if a < b then a else b
/-- one speaks to another -/
def kTell (K : KR) (p q : Nat) : KR := if ¬ K q = nI 3 ∧ K (54 + 10 * p + q) = nI 1 then upd K (20 + q) (kLess (nI 2) (K (20 + q) + kSpoils K p q)) else K
def kTellN (K : KR) (p : Nat) : Nat → KR
  | 0 => K
  | q + 1 => kTell (kTellN K p q) p q
def kSpread (K : KR) (c n : Nat) : Nat → KR
  | 0 => K
  | p + 1 => if c.testBit p then kTellN (kSpread K c n p) p n else kSpread K c n p
theorem kMov_upd {K : KR} {n p : Nat} (hn : n ≤ 10) (h : ∀ q, q < n → kMov K q) (hp : p < n) {j : Nat} {v : Int32} (hj : (j = p ∧ ∃ w, w < 4 ∧ ¬ w = 1 ∧ v = nI w) ∨ (j = 20 + p ∧ ∃ w, w < 3 ∧ v = nI w)) : ∀ q, q < n → kMov (upd K j v) q := by
  intro q hq
  have hm := h q hq
  rcases hj with ⟨rfl, w, hw, hw1, rfl⟩ | ⟨rfl, w, hw, rfl⟩
  · by_cases e : q = j
    · subst e
      refine ⟨⟨w, hw, pk_us⟩, fun z => ?_, ?_⟩
      · rw [pk_us, nI_inj (by omega) (by omega)] at z; omega
      · rw [pk_un (by omega)]; exact hm.2.2
    · unfold kMov at *
      rw [pk_un (by omega), pk_un (by omega), pk_un (by omega)]
      exact hm
  · by_cases e : q = p
    · subst e
      refine ⟨?_, ?_, ⟨w, hw, pk_us⟩⟩
      · rw [pk_un (by omega)]; exact hm.1
      · rw [pk_un (by omega), pk_un (by omega)]; exact hm.2.1
    · unfold kMov at *
      rw [pk_un (by omega), pk_un (by omega), pk_un (by omega)]
      exact hm
theorem kNum_upd {K : KR} {b j : Nat} {v : Int32} (h : kNum K b) (hj : j < 30 ∨ 34 ≤ j) : kNum (upd K j v) b := by
  unfold kNum at *
  rw [pk_un (by omega), pk_un (by omega), pk_un (by omega), pk_un (by omega)]
  exact h
theorem KOk.gone {K : KR} {b n c : Nat} (h : KOk K b n) : ∀ p, p ≤ n → KOk (kGone K c p) b n
  | 0, _ => h
  | p + 1, hp => by
    have h2 := KOk.gone (c := c) h p (by omega)
    have h10 := h.1.1
    unfold kGone
    split
    · exact h2.mov (fun i hi => pk_un (by omega)) (kMov_upd h10 (fun q hq => h2.movs hq) (show p < n from by omega) (Or.inl ⟨rfl, 3, by omega, by omega, rfl⟩)) (kNum_upd h2.2.2.1 (by omega))
    · exact h2
theorem kSpoils_r {K : KR} {p q : Nat} : kSpoils K p q = nI (tNat (kSpoils K p q)) ∧ tNat (kSpoils K p q) ≤ 2 := tellsOf_r (by omega) (by omega)
theorem KOk.tell {K : KR} {b n p q : Nat} (h : KOk K b n) (hq : q < n) : KOk (kTell K p q) b n := by
  have h10 := h.1.1
  unfold kTell
  split
  · refine h.mov (fun i hi => pk_un (by omega)) (kMov_upd h10 (fun q hq => h.movs hq) hq (Or.inr ⟨rfl, ?_⟩)) (kNum_upd h.2.2.1 (by omega))
    obtain ⟨e1, e2⟩ := h.heard hq
    obtain ⟨s1, s2⟩ := kSpoils_r (K := K) (p := p) (q := q)
    rw [e1, s1, nI_add]
    unfold kLess
    split
    · exact ⟨2, by omega, rfl⟩
    · rename_i z
      refine ⟨_, ?_, rfl⟩
      exact Nat.lt_succ_of_le (Nat.le_of_not_lt (fun y => z ((nI_ltI (by omega) (by omega)).mpr y)))
  · exact h
theorem KOk.tellN {K : KR} {b n p : Nat} (h : KOk K b n) : ∀ q, q ≤ n → KOk (kTellN K p q) b n
  | 0, _ => h
  | q + 1, hq => (KOk.tellN h q (by omega)).tell (by omega)
theorem KOk.spread {K : KR} {b n c : Nat} (h : KOk K b n) : ∀ p, p ≤ n → KOk (kSpread K c n p) b n
  | 0, _ => h
  | p + 1, hp => by
    have h2 := KOk.spread (c := c) h p (by omega)
    unfold kSpread
    split
    · exact h2.tellN n (Nat.le_refl n)
    · exact h2
