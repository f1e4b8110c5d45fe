/-! ACTS on what they move: the row kept, the rows left, how many -/
abbrev St : Type := KR × (Nat → Int32) × Nat
def sKp (s : St) (what : Int32) : (Nat → Int32) × Nat := (upd (cpA (kLeft s.2.1 s.2.2) s.1 (35 * kU s.2.2) 34) (35 * kU s.2.2 + 34) what, kU s.2.2 + 1)
def aSend (n : Nat) (s : St) (p : Int32) : Int32 × St := if 0 ≤ p.toInt ∧ p.toInt < n then (if s.1 (tNat p) = nI 0 then (kCosts s.1 (tNat p), (kSend s.1 (tNat p), sKp s (nI 0))) else (-3, s)) else (-2, s)
def aLight (n : Nat) (s : St) (crew : Int32) : Int32 × St := if zIn crew 1 1023 then (if kOut (tNat crew) n then (-2, s) else if kMayN s.1 (tNat crew) n = true ∧ nI (kNeed s.1) ≤ kWorthN s.1 (tNat crew) n then (kWorthN s.1 (tNat crew) n, (kLit s.1 (tNat crew) n, sKp s (nI 1))) else (-3, s)) else (-1, s)
def aDark (n : Nat) (s : St) : Int32 × St := if s.1 33 = nI 999 then (-3, s) else (kDark s.1 n 31, (kDark s.1 n, sKp s (nI 2)))
def put (M : MM) (s : St) : MM := ms (mar (mar M 26 s.2.1) 2 s.1) 28 (nI s.2.2)
def got (M : MM) (u : Nat) : St := (M.2.2.1 2, M.2.2.1 26, u)
theorem put_got {M : MM} {u : Nat} (h : M.1 28 = nI u) : put M (got M u) = M := by
  refine Prod.ext (funext fun i => ?_) (Prod.ext rfl (Prod.ext (funext fun i => ?_) rfl))
  · show va_up M.1 28 (nI u) i = M.1 i
    unfold va_up
    split
    · rename_i q; rw [q, h]
    · rfl
  · show va_up (va_up M.2.2.1 26 (M.2.2.1 26)) 2 (M.2.2.1 2) i = M.2.2.1 i
    unfold va_up
    split
    · rename_i q; rw [q]
    · split
      · rename_i q; rw [q]
      · rfl
theorem put_put {M : MM} {s t : St} : put (put M s) t = put M t := by
  refine Prod.ext (funext fun i => ?_) (Prod.ext rfl (Prod.ext (funext fun i => ?_) rfl))
  · show va_up (va_up M.1 28 (nI s.2.2)) 28 (nI t.2.2) i = va_up M.1 28 (nI t.2.2) i
    unfold va_up
    split <;> rfl
  · show va_up (va_up (va_up (va_up M.2.2.1 26 s.2.1) 2 s.1) 26 t.2.1) 2 t.1 i = va_up (va_up M.2.2.1 26 t.2.1) 2 t.1 i
    unfold va_up
    by_cases q1 : i = 2
    · rw [if_pos q1, if_pos q1]
    · rw [if_neg q1, if_neg q1, if_neg q1]
      split <;> rfl
theorem got_put {M : MM} {s : St} : got (put M s) s.2.2 = s := rfl
theorem oSend_put {M : MM} {n u : Nat} {p : Int32} (h : M.1 28 = nI u) : oSendK M n u p = ((aSend n (got M u) p).1, put M (aSend n (got M u) p).2) := by
  unfold oSendK aSend
  rw [show (got M u).1 = M.2.2.1 2 from rfl]
  split
  · split
    · rfl
    · rw [put_got h]
  · rw [put_got h]
theorem oLight_put {M : MM} {n u : Nat} {p : Int32} (h : M.1 28 = nI u) : oLightK M n u p = ((aLight n (got M u) p).1, put M (aLight n (got M u) p).2) := by
  unfold oLightK aLight
  rw [show (got M u).1 = M.2.2.1 2 from rfl]
  split
  · split
    · rw [put_got h]
    · split
      · rfl
      · rw [put_got h]
  · rw [put_got h]
theorem oDark_put {M : MM} {n u : Nat} (h : M.1 28 = nI u) : oDarkK M n u = ((aDark n (got M u)).1, put M (aDark n (got M u)).2) := by
  unfold oDarkK aDark
  rw [show (got M u).1 = M.2.2.1 2 from rfl]
  split
  · rw [put_got h]
  · rfl
/-- what acts leave: rows behind the moved part -/
theorem kSpendN_far {K : KR} {i : Nat} (hi : 34 ≤ i) : ∀ p, kSpendN K p i = K i
  | 0 => rfl
  | p + 1 => (pk_un (by omega)).trans (kSpendN_far hi p)
theorem kArrN_far {K : KR} {i : Nat} (hi : 34 ≤ i) : ∀ p, p ≤ 10 → kArrN K p i = K i
  | 0, _ => rfl
  | p + 1, hp => by
    rw [show kArrN K (p + 1) = kArr (kArrN K p) p from rfl]
    unfold kArr
    split
    · rw [pk_un (by omega), pk_un (by omega)]
      exact kArrN_far hi p (by omega)
    · exact kArrN_far hi p (by omega)
theorem kNight_far {K : KR} {n i : Nat} (hn : n ≤ 10) (hi : 34 ≤ i) : kNight K n i = K i := by
  unfold kNight kNightA
  rw [kArrN_far hi n hn, pk_un (by omega), kSpendN_far hi]
theorem kGone_far {K : KR} {c i : Nat} (hi : 34 ≤ i) : ∀ p, p ≤ 10 → kGone K c p i = K i
  | 0, _ => rfl
  | p + 1, hp => by
    unfold kGone
    split
    · rw [pk_un (by omega)]
      exact kGone_far hi p (by omega)
    · exact kGone_far hi p (by omega)
theorem kTellN_far {K : KR} {p i : Nat} (hi : 34 ≤ i) : ∀ q, q ≤ 10 → kTellN K p q i = K i
  | 0, _ => rfl
  | q + 1, hq => by
    rw [show kTellN K p (q + 1) = kTell (kTellN K p q) p q from rfl]
    unfold kTell
    split
    · rw [pk_un (by omega)]
      exact kTellN_far hi q (by omega)
    · exact kTellN_far hi q (by omega)
theorem kSpread_far {K : KR} {c n i : Nat} (hn : n ≤ 10) (hi : 34 ≤ i) : ∀ p, kSpread K c n p i = K i
  | 0 => rfl
  | p + 1 => by
    unfold kSpread
    split
    · rw [kTellN_far hi n hn]
      exact kSpread_far hn hi p
    · exact kSpread_far hn hi p
theorem kLit_far {K : KR} {c n i : Nat} (hn : n ≤ 10) (hi : 34 ≤ i) : kLit K c n i = K i := by
  unfold kLit kLitA
  rw [kNight_far hn hi, pk_un (by omega), kSpread_far hn hi, kGone_far hi n hn]
theorem kDark_far {K : KR} {n i : Nat} (hn : n ≤ 10) (hi : 34 ≤ i) : kDark K n i = K i := by
  unfold kDark
  rw [kNight_far hn hi, pk_un (by omega)]
theorem kSend_far {K : KR} {p i : Nat} (hp : p < 10) (hi : 34 ≤ i) : kSend K p i = K i := by
  unfold kSend
  rw [pk_un (by omega), pk_un (by omega), pk_un (by omega)]
theorem tNat_lt {p : Int32} {n : Nat} (h0 : 0 ≤ p.toInt) (h : p.toInt < n) : tNat p < n := by
  unfold tNat
  omega
theorem aSend_far {n : Nat} {s : St} {p : Int32} {i : Nat} (hn : n ≤ 10) (hi : 34 ≤ i) : (aSend n s p).2.1 i = s.1 i := by
  unfold aSend
  split
  · rename_i q
    split
    · exact kSend_far (Nat.lt_of_lt_of_le (tNat_lt q.1 q.2) hn) hi
    · rfl
  · rfl
theorem aLight_far {n : Nat} {s : St} {p : Int32} {i : Nat} (hn : n ≤ 10) (hi : 34 ≤ i) : (aLight n s p).2.1 i = s.1 i := by
  unfold aLight
  split
  · split
    · rfl
    · split
      · exact kLit_far hn hi
      · rfl
  · rfl
theorem aDark_far {n : Nat} {s : St} {i : Nat} (hn : n ≤ 10) (hi : 34 ≤ i) : (aDark n s).2.1 i = s.1 i := by
  unfold aDark
  split
  · rfl
  · exact kDark_far hn hi
/-- rows left are good: of the same persons -/
def lRow (Lf : Nat → Int32) (i : Nat) : KR := fun j => Lf (35 * i + j)
def lfOk (Lf : Nat → Int32) (b n u : Nat) : Prop := ∀ i, i < u → (∀ p, p < n → kMov (lRow Lf i) p) ∧ kNum (lRow Lf i) b ∧ ∃ w, w < 3 ∧ Lf (35 * i + 34) = nI w
def stOk (s : St) (b n : Nat) : Prop := KOk s.1 b n ∧ s.2.2 ≤ 16 ∧ lfOk s.2.1 b n s.2.2
theorem kNum_mono {K : KR} {b b' : Nat} (h : kNum K b) (hb : b ≤ b') : kNum K b' := by
  obtain ⟨⟨a, ha, ea⟩, ⟨a2, ha2, ea2⟩, ⟨a3, ha3, ea3⟩, a4⟩ := h
  exact ⟨⟨a, by omega, ea⟩, ⟨a2, by omega, ea2⟩, ⟨a3, by omega, ea3⟩, a4⟩
theorem KOk_mono {K : KR} {b b' n : Nat} (h : KOk K b n) (hb : b ≤ b') : KOk K b' n := ⟨h.1, h.2.1, kNum_mono h.2.2.1 hb, h.2.2.2⟩
theorem lfOk_mono {Lf : Nat → Int32} {b b' n u : Nat} (h : lfOk Lf b n u) (hb : b ≤ b') : lfOk Lf b' n u := fun i hi => ⟨(h i hi).1, kNum_mono (h i hi).2.1 hb, (h i hi).2.2⟩
theorem kMov_ext {K K' : KR} {p : Nat} (hp : p < 10) (he : ∀ j, j < 34 → K' j = K j) (h : kMov K p) : kMov K' p := by
  unfold kMov at *
  rw [he _ (by omega), he _ (by omega), he _ (by omega)]
  exact h
theorem kNum_ext {K K' : KR} {b : Nat} (he : ∀ j, j < 34 → K' j = K j) (h : kNum K b) : kNum K' b := by
  unfold kNum at *
  rw [he _ (by omega), he _ (by omega), he _ (by omega), he _ (by omega)]
  exact h
theorem cpA_at {h g : Nat → Int32} {a j i : Nat} : cpA h g a j i = if a ≤ i ∧ i < a + j then g (i - a) else h i := rfl
theorem sKp_ok {s : St} {b n : Nat} {w : Nat} (hw : w < 3) (h : stOk s b n) : (sKp s (nI w)).2 ≤ 16 ∧ lfOk (sKp s (nI w)).1 b n (sKp s (nI w)).2 := by
  obtain ⟨hK, hu, hl⟩ := h
  have h10 := hK.1.1
  have hkU : kU s.2.2 ≤ 15 := by unfold kU; split <;> omega
  refine ⟨by show kU s.2.2 + 1 ≤ 16; omega, fun i hi => ?_⟩
  replace hi : i < kU s.2.2 + 1 := hi
  have hrow : i < kU s.2.2 → ∃ i', i' < s.2.2 ∧ (∀ j, j < 35 → (sKp s (nI w)).1 (35 * i + j) = s.2.1 (35 * i' + j)) := by
    intro hlt
    refine ⟨if s.2.2 = 16 then i + 1 else i, ?_, fun j hj => ?_⟩
    · unfold kU at hlt
      split at hlt
      · rename_i q; rw [if_pos q]; omega
      · rename_i q; rw [if_neg q]; exact hlt
    · show upd (cpA (kLeft s.2.1 s.2.2) s.1 (35 * kU s.2.2) 34) (35 * kU s.2.2 + 34) (nI w) (35 * i + j) = _
      rw [pk_un (by omega), cpA_at, if_neg (by omega)]
      unfold kLeft
      unfold kU at hlt hkU
      by_cases q : s.2.2 = 16
      · rw [if_pos q] at hlt
        rw [if_pos q, if_pos q, cpA_at, if_pos (by omega)]
        show s.2.1 (35 * i + j - 0 + 35) = _
        rw [show 35 * i + j - 0 + 35 = 35 * (i + 1) + j from by omega]
      · rw [if_neg q, if_neg q]
  by_cases e : i = kU s.2.2
  · subst e
    have hr : ∀ j, j < 34 → lRow (sKp s (nI w)).1 (kU s.2.2) j = s.1 j := by
      intro j hj
      show upd (cpA (kLeft s.2.1 s.2.2) s.1 (35 * kU s.2.2) 34) (35 * kU s.2.2 + 34) (nI w) (35 * kU s.2.2 + j) = _
      rw [pk_un (by omega), cpA_at, if_pos (by omega), show 35 * kU s.2.2 + j - 35 * kU s.2.2 = j from by omega]
    exact ⟨fun p hp => kMov_ext (by omega) hr (hK.movs hp), kNum_ext hr hK.2.2.1, w, hw, pk_us⟩
  · obtain ⟨i', h1, h2⟩ := hrow (by omega)
    obtain ⟨g1, g2, g3⟩ := hl i' h1
    have hr : ∀ j, j < 34 → lRow (sKp s (nI w)).1 i j = lRow s.2.1 i' j := fun j hj => h2 j (by omega)
    exact ⟨fun p hp => kMov_ext (by omega) hr (g1 p hp), kNum_ext hr g2, by rw [h2 34 (by omega)]; exact g3⟩
theorem KOk.send {K : KR} {b n p : Nat} (h : KOk K b n) (hp : p < n) : KOk (kSend K p) (b + 1) n := by
  have h10 := h.1.1
  obtain ⟨r1, r2⟩ := tellsOf_r (K := K) (head := 1) (high := 60) (without := kRoad K p) (a := aNow K p) (by have := (h.road hp).2; omega) (by omega)
  obtain ⟨c1, c2⟩ := tellsOf_r (K := K) (head := 2) (high := 999) (without := kRoad K p) (a := aNow K p) (by have := (h.road hp).2; omega) (by omega)
  have e1 : kTakes K p = _ := r1
  have e2 : kCosts K p = _ := c1
  have hday := h.day
  obtain ⟨⟨a, ha, ea⟩, ⟨a2, ha2, ea2⟩, ⟨a3, ha3, ea3⟩, a4⟩ := h.2.2.1
  refine h.mov (fun i hi => kSend_far (by omega) hi) (fun q hq => ?_) ?_
  · have := h.movs hq
    by_cases e : q = p
    · subst e
      refine ⟨?_, fun z => ?_, ?_⟩
      · show ∃ w, w < 4 ∧ upd (upd (upd K 32 _) q _) (10 + q) _ q = nI w
        rw [pk_un (by omega), pk_us]
        split
        · exact ⟨2, by omega, rfl⟩
        · exact ⟨1, by omega, rfl⟩
      · have z2 : upd (upd (upd K 32 (K 32 + kCosts K q)) q (if kTakes K q = nI 0 then nI 2 else nI 1)) (10 + q) (if kTakes K q = nI 0 then -1 else K 33 + kTakes K q) q = nI 1 := z
        rw [pk_un (by omega), pk_us] at z2
        show ∃ t, t ≤ 1100 ∧ upd (upd (upd K 32 _) q _) (10 + q) _ (10 + q) = nI t
        rw [pk_us]
        split at z2
        · rw [nI_inj (by omega) (by omega)] at z2; omega
        · rename_i y
          rw [if_neg y, hday.1, e1, nI_add]
          exact ⟨_, by omega, rfl⟩
      · show ∃ h, h < 3 ∧ upd (upd (upd K 32 _) q _) (10 + q) _ (20 + q) = nI h
        rw [pk_un (by omega), pk_un (by omega), pk_un (by omega)]
        exact this.2.2
    · unfold kMov kSend at *
      rw [pk_un (by omega), pk_un (by omega), pk_un (by omega), pk_un (by omega), pk_un (by omega), pk_un (by omega), pk_un (by omega), pk_un (by omega), pk_un (by omega)]
      exact this
  · unfold kNum kSend
    rw [pk_un (by omega), pk_un (by omega), pk_un (by omega), pk_un (by omega), pk_un (by omega), pk_un (by omega), pk_un (by omega), pk_un (by omega), pk_us, pk_un (by omega), pk_un (by omega), pk_un (by omega), ea3, e2, nI_add]
    exact ⟨⟨a, by omega, ea⟩, ⟨a2, by omega, ea2⟩, ⟨_, by omega, rfl⟩, a4⟩
theorem aSend_ok {n b : Nat} {s : St} {p : Int32} (h : stOk s b n) : stOk (aSend n s p).2 (b + 2) n := by
  unfold aSend
  split
  · rename_i q
    split
    · obtain ⟨g1, g2⟩ := sKp_ok (w := 0) (by omega) h
      exact ⟨KOk_mono (h.1.send (tNat_lt q.1 q.2)) (by omega), g1, lfOk_mono g2 (by omega)⟩
    · exact ⟨KOk_mono h.1 (by omega), h.2.1, lfOk_mono h.2.2 (by omega)⟩
  · exact ⟨KOk_mono h.1 (by omega), h.2.1, lfOk_mono h.2.2 (by omega)⟩
theorem kMay_day {K : KR} {c : Nat} : ∀ {j}, kMayN K c j = true → kDay K < 999
  | 0, h => of_decide_eq_true h
  | j + 1, h => by
    unfold kMayN at h
    split at h
    · rw [Bool.and_eq_true] at h; exact kMay_day h.1
    · exact kMay_day h
theorem aLight_ok {n b : Nat} {s : St} {p : Int32} (h : stOk s b n) : stOk (aLight n s p).2 (b + 2) n := by
  unfold aLight
  split
  · split
    · exact ⟨KOk_mono h.1 (by omega), h.2.1, lfOk_mono h.2.2 (by omega)⟩
    · split
      · rename_i q
        obtain ⟨g1, g2⟩ := sKp_ok (w := 1) (by omega) h
        refine ⟨?_, g1, lfOk_mono g2 (by omega)⟩
        have h10 := h.1.1.1
        have hl := h.1.litA (c := tNat p)
        refine hl.night ?_
        rw [kLitA_day h10]
        exact kMay_day q.1
      · exact ⟨KOk_mono h.1 (by omega), h.2.1, lfOk_mono h.2.2 (by omega)⟩
  · exact ⟨KOk_mono h.1 (by omega), h.2.1, lfOk_mono h.2.2 (by omega)⟩
theorem aDark_ok {n b : Nat} {s : St} (h : stOk s b n) : stOk (aDark n s).2 (b + 2) n := by
  unfold aDark
  split
  · exact ⟨KOk_mono h.1 (by omega), h.2.1, lfOk_mono h.2.2 (by omega)⟩
  · rename_i q
    obtain ⟨g1, g2⟩ := sKp_ok (w := 2) (by omega) h
    exact ⟨h.1.dark q, g1, lfOk_mono g2 (by omega)⟩
theorem sKp_hi {s : St} {w : Int32} {k : Nat} (hk : 560 ≤ k) (hu : s.2.2 ≤ 16) : (sKp s w).1 k = s.2.1 k := by
  have hkU : kU s.2.2 ≤ 15 := by unfold kU; split <;> omega
  show upd (cpA (kLeft s.2.1 s.2.2) s.1 (35 * kU s.2.2) 34) (35 * kU s.2.2 + 34) w k = _
  rw [pk_un (by omega), cpA_at, if_neg (by omega)]
  unfold kLeft
  split
  · rw [cpA_at, if_neg (by omega)]
  · rfl
theorem aSend_hi {n : Nat} {s : St} {p : Int32} {k : Nat} (hk : 560 ≤ k) (hu : s.2.2 ≤ 16) : (aSend n s p).2.2.1 k = s.2.1 k := by
  unfold aSend
  split
  · split
    · exact sKp_hi hk hu
    · rfl
  · rfl
theorem aLight_hi {n : Nat} {s : St} {p : Int32} {k : Nat} (hk : 560 ≤ k) (hu : s.2.2 ≤ 16) : (aLight n s p).2.2.1 k = s.2.1 k := by
  unfold aLight
  split
  · split
    · rfl
    · split
      · exact sKp_hi hk hu
      · rfl
  · rfl
theorem aDark_hi {n : Nat} {s : St} {k : Nat} (hk : 560 ≤ k) (hu : s.2.2 ≤ 16) : (aDark n s).2.2.1 k = s.2.1 k := by
  unfold aDark
  split
  · rfl
  · exact sKp_hi hk hu
/-- far from what acts move -/
def far (s s0 : St) : Prop := (∀ i, 34 ≤ i → s.1 i = s0.1 i) ∧ ∀ k, 560 ≤ k → s.2.1 k = s0.2.1 k
theorem far_rf {s : St} : far s s := ⟨fun _ _ => rfl, fun _ _ => rfl⟩
theorem far_tr {s t r : St} (h : far r t) (h2 : far t s) : far r s := ⟨fun i hi => (h.1 i hi).trans (h2.1 i hi), fun i hi => (h.2 i hi).trans (h2.2 i hi)⟩
theorem aSend_fr {n : Nat} {s : St} {p : Int32} (hn : n ≤ 10) (hu : s.2.2 ≤ 16) : far (aSend n s p).2 s := ⟨fun _ hi => aSend_far hn hi, fun _ hk => aSend_hi hk hu⟩
theorem aLight_fr {n : Nat} {s : St} {p : Int32} (hn : n ≤ 10) (hu : s.2.2 ≤ 16) : far (aLight n s p).2 s := ⟨fun _ hi => aLight_far hn hi, fun _ hk => aLight_hi hk hu⟩
theorem aDark_fr {n : Nat} {s : St} (hn : n ≤ 10) (hu : s.2.2 ≤ 16) : far (aDark n s).2 s := ⟨fun _ hi => aDark_far hn hi, fun _ hk => aDark_hi hk hu⟩
