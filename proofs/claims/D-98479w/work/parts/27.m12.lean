/-! THE MODEL LIGHTS -/
def kMay (K : KR) (p : Nat) : Bool := decide (K p = nI 2) && decide (0 < wOf K p) && !kBarred K p (K (20 + p)) (K 33) (fogOf K (kDay K))
def kMayN (K : KR) (c : Nat) : Nat → Bool
  | 0 => decide (kDay K < 999)
  | p + 1 => if c.testBit p then kMayN K c p && kMay K p else kMayN K c p
def kWorthN (K : KR) (c : Nat) : Nat → Int32
  | 0 => nI 0
  | p + 1 => if c.testBit p then kWorthN K c p + wOf K p else kWorthN K c p
def kOut (c n : Nat) : Bool := (List.range 10).any (fun p => c.testBit p && decide (n ≤ p))
theorem kOut_t {c n p : Nat} (hp : p < 10) (h : c.testBit p = true) (hn : n ≤ p) : kOut c n = true := List.any_eq_true.mpr ⟨p, List.mem_range.mpr hp, by rw [h, decide_eq_true hn]; rfl⟩
theorem kOut_f {c n : Nat} (h : ∀ p, p < 10 → c.testBit p = true → p < n) : kOut c n = false := by
  cases e : kOut c n with
  | false => rfl
  | true =>
    obtain ⟨p, hp, q⟩ := List.any_eq_true.mp e
    rw [Bool.and_eq_true, decide_eq_true_eq] at q
    exact absurd (h p (List.mem_range.mp hp) q.1) (by omega)
def kNeed (K : KR) : Nat := if fogOf K (kDay K) then 4 else 2
def kLitA (K : KR) (c n : Nat) : KR := upd (kSpread (kGone K c n) c n n) 30 (kSpread (kGone K c n) c n n 30 + nI 1)
def kLit (K : KR) (c n : Nat) : KR := kNight (kLitA K c n) n
def oLightK (M : MM) (n u : Nat) (crew : Int32) : Int32 × MM := if zIn crew 1 1023 then (if kOut (tNat crew) n then (-2, M) else if kMayN (M.2.2.1 2) (tNat crew) n = true ∧ nI (kNeed (M.2.2.1 2)) ≤ kWorthN (M.2.2.1 2) (tNat crew) n then (kWorthN (M.2.2.1 2) (tNat crew) n, mar (sKeep M u (nI 1)) 2 (kLit (M.2.2.1 2) (tNat crew) n)) else (-3, M)) else (-1, M)
theorem kSpread_hi {K : KR} {c n : Nat} (hn : n ≤ 10) : ∀ p, ∀ i, 30 ≤ i → kSpread K c n p i = K i := by
  have h1 : ∀ (K : KR) (p : Nat) (q : Nat), q ≤ 10 → ∀ i, 30 ≤ i → kTellN K p q i = K i := by
    intro K p q
    induction q with
    | zero => intro _ i _; rfl
    | succ q ih =>
      intro hq i hi
      rw [show kTellN K p (q + 1) = kTell (kTellN K p q) p q from rfl]
      unfold kTell
      split
      · rw [pk_un (by omega)]; exact ih (by omega) i hi
      · exact ih (by omega) i hi
  intro p
  induction p with
  | zero => intro i _; rfl
  | succ p ih =>
    intro i hi
    unfold kSpread
    split
    · rw [h1 _ _ _ hn i hi]; exact ih i hi
    · exact ih i hi
theorem kGone_hi {K : KR} {c : Nat} : ∀ p, p ≤ 10 → ∀ i, 30 ≤ i → kGone K c p i = K i := by
  intro p
  induction p with
  | zero => intro _ i _; rfl
  | succ p ih =>
    intro hp i hi
    unfold kGone
    split
    · rw [pk_un (by omega)]; exact ih (by omega) i hi
    · exact ih (by omega) i hi
theorem KOk.litA {K : KR} {b n c : Nat} (h : KOk K b n) : KOk (kLitA K c n) (b + 1) n := by
  have h10 := h.1.1
  have h2 := (h.gone (c := c) n (Nat.le_refl n)).spread (c := c) n (Nat.le_refl n)
  have e : ∀ i, 30 ≤ i → kSpread (kGone K c n) c n n i = K i := fun i hi => (kSpread_hi h10 n i hi).trans (kGone_hi n h10 i hi)
  refine h2.mov (fun i hi => pk_un (by omega)) (fun q hq => ?_) ?_
  · have := h2.movs hq
    unfold kMov kLitA at *
    rw [pk_un (by omega), pk_un (by omega), pk_un (by omega)]
    exact this
  · obtain ⟨⟨a, ha, ea⟩, ⟨a2, ha2, ea2⟩, ⟨a3, ha3, ea3⟩, a4⟩ := h.2.2.1
    unfold kNum kLitA
    rw [pk_us, pk_un (by omega), pk_un (by omega), pk_un (by omega), e _ (by omega), e _ (by omega), e _ (by omega), e _ (by omega), ea, nI_add]
    exact ⟨⟨_, by omega, rfl⟩, ⟨a2, by omega, ea2⟩, ⟨a3, by omega, ea3⟩, a4⟩
theorem kLitA_day {K : KR} {c n : Nat} (hn : n ≤ 10) : kDay (kLitA K c n) = kDay K := by
  unfold kDay kLitA
  rw [pk_un (by omega), kSpread_hi hn n _ (by omega), kGone_hi n hn _ (by omega)]
section Light
variable {E : JE} {L : ML} {ph : HP}
theorem c_X6_mayLight {M : MM} {b n : Nat} (hK : KOk (M.2.2.1 2) b n) {p : Nat} (hp : p < n) : MC E fX6_mayLight L M ph [.int (nI p)] (rI fun r M' => r = bI (kMay (M.2.2.1 2) p) ∧ mA M M') := by
  have h10 := hK.1.1
  have hday := hK.day
  have hh := hK.heard hp
  refine Ct.of [some (.ref (L.1 52)), some (.int (nI p))] rfl (Nat.le_of_ble_eq_true rfl) (show plainName RX6 = true by decide +kernel) rfl ?_
  refine G.aload_n0 dX6_mayLight_0 ?_
  refine G.mgeta 2 fl_X6_24 dX6_mayLight_1 ?_
  refine G.iconst (v := nI 0) dX6_mayLight_4 (by decide) ?_
  refine G.iload_n1 dX6_mayLight_5 ?_
  first | with_reducible refine G.iaddn dX6_mayLight_6 ?_ | refine G.iadd dX6_mayLight_6 ?_
  refine G.miald (n := 5866) 2 p dX6_mayLight_7 (congrArg nI (Nat.zero_add p)) (by omega) ?_
  refine G.iconst (v := nI 2) dX6_mayLight_8 (by decide) ?_
  refine G.icmp_ne (tgt := 59) dX6_mayLight_9 (by decide) (fun c_9 => ?_) (fun c_9 => ?_)
  · refine G.iconst (v := nI 0) dX6_mayLight_59 (by decide) ?_
    refine G.ireturn dX6_mayLight_60 ?_ (hn := by first | rfl | exact bI_nar _)
    unfold kMay
    first
      | exact ⟨_, rfl, _, rfl, bI_ff (by rw [decide_eq_false c_9]; rfl), mX.rf⟩
      | exact ⟨_, rfl, _, rfl, bI_ff (by rw [decide_eq_false (show ¬ 0 < wOf (M.2.2.1 2) p from Int32.not_lt.mpr c_17), Bool.and_false]; rfl), mX.rf⟩
      | exact ⟨_, rfl, _, rfl, bI_ff (by rw [c_52, Bool.not_true, Bool.and_false]), g1⟩
      | exact ⟨_, rfl, _, rfl, bI_tt (by rw [c_52, decide_eq_true (by first | exact c_9 | exact Classical.not_not.mp c_9), decide_eq_true (show 0 < wOf (M.2.2.1 2) p from Int32.not_le.mp c_17)]; rfl), g1⟩
  · refine G.aload_n0 dX6_mayLight_12 ?_
    refine G.iload_n1 dX6_mayLight_13 ?_
    refine G.mcall (f' := fX6_worthOf) q1966 ck_X6_worthOf (c_X6_worthOf E L M ph (k := p) (by omega)) dX6_mayLight_14 (rI.k fun r_14 M_14 h_14 => ?_)
    obtain ⟨e_14, h_14⟩ := h_14; replace e_14 := e_14.symm; replace h_14 := h_14.symm; subst e_14; subst h_14
    refine G.if_le (tgt := 59) dX6_mayLight_17 (by decide) (fun c_17 => ?_) (fun c_17 => ?_)
    · refine G.iconst (v := nI 0) dX6_mayLight_59 (by decide) ?_
      refine G.ireturn dX6_mayLight_60 ?_ (hn := by first | rfl | exact bI_nar _)
      unfold kMay
      first
        | exact ⟨_, rfl, _, rfl, bI_ff (by rw [decide_eq_false c_9]; rfl), mX.rf⟩
        | exact ⟨_, rfl, _, rfl, bI_ff (by rw [decide_eq_false (show ¬ 0 < wOf (M.2.2.1 2) p from Int32.not_lt.mpr c_17), Bool.and_false]; rfl), mX.rf⟩
        | exact ⟨_, rfl, _, rfl, bI_ff (by rw [c_52, Bool.not_true, Bool.and_false]), g1⟩
        | exact ⟨_, rfl, _, rfl, bI_tt (by rw [c_52, decide_eq_true (by first | exact c_9 | exact Classical.not_not.mp c_9), decide_eq_true (show 0 < wOf (M.2.2.1 2) p from Int32.not_le.mp c_17)]; rfl), g1⟩
    · refine G.aload_n0 dX6_mayLight_20 ?_
      refine G.iload_n1 dX6_mayLight_21 ?_
      refine G.aload_n0 dX6_mayLight_22 ?_
      refine G.mgeta 2 fl_X6_24 dX6_mayLight_23 ?_
      refine G.bipush (v := nI 20) dX6_mayLight_26 (by decide) ?_
      refine G.iload_n1 dX6_mayLight_28 ?_
      first | with_reducible refine G.iaddn dX6_mayLight_29 ?_ | refine G.iadd dX6_mayLight_29 ?_
      refine G.miald (n := 5866) 2 _ dX6_mayLight_30 rfl (by omega) ?_
      refine G.aload_n0 dX6_mayLight_31 ?_
      refine G.mgeta 2 fl_X6_24 dX6_mayLight_32 ?_
      refine G.bipush (v := nI 33) dX6_mayLight_35 (by decide) ?_
      refine G.miald (n := 5866) 2 _ dX6_mayLight_37 rfl (by omega) ?_
      refine G.aload_n0 dX6_mayLight_38 ?_
      refine G.aload_n0 dX6_mayLight_39 ?_
      refine G.mgeta 2 fl_X6_24 dX6_mayLight_40 ?_
      refine G.bipush (v := nI 33) dX6_mayLight_43 (by decide) ?_
      refine G.miald (n := 5866) 2 _ dX6_mayLight_45 rfl (by omega) ?_
      rw [hday.1]
      refine G.mcall (f' := fX6_fogOn) q2112 ck_X6_fogOn (c_X6_fogOn hK (kDay (M.2.2.1 2)) (by omega)) dX6_mayLight_46 (rI.k fun r_46 M_46 h_46 => ?_)
      obtain ⟨e_46, h_46⟩ := h_46; replace e_46 := e_46.symm; replace h_46 := h_46.symm; subst e_46; subst h_46
      refine G.mcall (f' := fX6_isBarred) q2175 ck_X6_isBarred (c_X6_isBarred hK hp (M.2.2.1 2 (20 + p)) (nI (kDay (M.2.2.1 2))) _ (by rw [hh.1, t_nI (by omega)]; omega) (by rw [t_nI (by omega)]; omega)) dX6_mayLight_49 (rI.k fun r_49 M_49 h_49 => ?_)
      obtain ⟨rfl, g1⟩ := h_49
      refine G.ifb_ne (tgt := 59) dX6_mayLight_52 (by decide) (fun c_52 => ?_) (fun c_52 => ?_)
      · rw [← hday.1] at c_52
        refine G.iconst (v := nI 0) dX6_mayLight_59 (by decide) ?_
        refine G.ireturn dX6_mayLight_60 ?_ (hn := by first | rfl | exact bI_nar _)
        unfold kMay
        first
          | exact ⟨_, rfl, _, rfl, bI_ff (by rw [decide_eq_false c_9]; rfl), mX.rf⟩
          | exact ⟨_, rfl, _, rfl, bI_ff (by rw [decide_eq_false (show ¬ 0 < wOf (M.2.2.1 2) p from Int32.not_lt.mpr c_17), Bool.and_false]; rfl), mX.rf⟩
          | exact ⟨_, rfl, _, rfl, bI_ff (by rw [c_52, Bool.not_true, Bool.and_false]), g1⟩
          | exact ⟨_, rfl, _, rfl, bI_tt (by rw [c_52, decide_eq_true (by first | exact c_9 | exact Classical.not_not.mp c_9), decide_eq_true (show 0 < wOf (M.2.2.1 2) p from Int32.not_le.mp c_17)]; rfl), g1⟩
      · rw [← hday.1] at c_52
        refine G.iconst (v := nI 1) dX6_mayLight_55 (by decide) ?_
        refine G.goto (tgt := 60) dX6_mayLight_56 (by decide) ?_
        refine G.ireturn dX6_mayLight_60 ?_ (hn := by first | rfl | exact bI_nar _)
        unfold kMay
        first
          | exact ⟨_, rfl, _, rfl, bI_ff (by rw [decide_eq_false c_9]; rfl), mX.rf⟩
          | exact ⟨_, rfl, _, rfl, bI_ff (by rw [decide_eq_false (show ¬ 0 < wOf (M.2.2.1 2) p from Int32.not_lt.mpr c_17), Bool.and_false]; rfl), mX.rf⟩
          | exact ⟨_, rfl, _, rfl, bI_ff (by rw [c_52, Bool.not_true, Bool.and_false]), g1⟩
          | exact ⟨_, rfl, _, rfl, bI_tt (by rw [c_52, decide_eq_true (by first | exact c_9 | exact Classical.not_not.mp c_9), decide_eq_true (show 0 < wOf (M.2.2.1 2) p from Int32.not_le.mp c_17)]; rfl), g1⟩
def kDark (K : KR) (n : Nat) : KR := kNight (upd K 31 (K 31 + nI 1)) n
def oDarkK (M : MM) (n u : Nat) : Int32 × MM := if M.2.2.1 2 33 = nI 999 then (-3, M) else (kDark (M.2.2.1 2) n 31, mar (sKeep M u (nI 2)) 2 (kDark (M.2.2.1 2) n))
theorem c_X6_darkKept {M : MM} {b n u : Nat} (hK : KOk (M.2.2.1 2) b n) (hu : u ≤ 16) (hM : M.1 28 = nI u) : MC E fX6_darkKept L M ph [] (rI fun r M' => r = (oDarkK M n u).1 ∧ mA (oDarkK M n u).2 M') := by
  have h10 := hK.1.1
  have hday := hK.day
  refine Ct.of [some (.ref (L.1 52))] rfl (Nat.le_of_ble_eq_true rfl) (show plainName RX6 = true by decide +kernel) rfl ?_
  refine G.aload_n0 dX6_darkKept_0 ?_
  refine G.mgeta 2 fl_X6_24 dX6_darkKept_1 ?_
  refine G.bipush (v := nI 33) dX6_darkKept_4 (by decide) ?_
  refine G.miald (n := 5866) 2 _ dX6_darkKept_6 rfl (by omega) ?_
  refine G.sipush (v := nI 999) dX6_darkKept_7 (by decide) ?_
  refine G.icmp_ne (tgt := 16) dX6_darkKept_10 (by decide) (fun c_10 => ?_) (fun c_10 => ?_)
  · have e : oDarkK M n u = (kDark (M.2.2.1 2) n 31, mar (sKeep M u (nI 2)) 2 (kDark (M.2.2.1 2) n)) := if_neg c_10
    rw [e]
    refine G.aload_n0 dX6_darkKept_16 ?_
    refine G.iconst (v := nI 2) dX6_darkKept_17 (by decide) ?_
    refine G.mcall (f' := fX6_keeps) q2195 ck_X6_keeps (c_X6_keeps hu hM _) dX6_darkKept_18 (rV.k fun M_18 h_18 => ?_)
    replace h_18 := h_18.symm; subst h_18
    refine G.aload_n0 dX6_darkKept_21 ?_
    refine G.mgeta 2 fl_X6_24 dX6_darkKept_22 ?_
    refine G.bipush (v := nI 31) dX6_darkKept_25 (by decide) ?_
    refine G.dup2_11 dX6_darkKept_27 rfl rfl ?_
    refine G.miald (n := 5866) 2 _ dX6_darkKept_28 rfl (by omega) ?_
    refine G.iconst (v := nI 1) dX6_darkKept_29 (by decide) ?_
    refine G.iadd dX6_darkKept_30 ?_
    refine G.miast (n := 5866) 2 _ dX6_darkKept_31 rfl (by omega) ?_
    refine G.aload_n0 dX6_darkKept_32 ?_
    have hK2 : KOk (upd (M.2.2.1 2) 31 (M.2.2.1 2 31 + nI 1)) (b + 1) n := by
        refine hK.mov (fun i hi => pk_un (by omega)) (fun q hq => ?_) ?_
        · have := hK.movs hq
          unfold kMov at *
          rw [pk_un (by omega), pk_un (by omega), pk_un (by omega)]
          exact this
        · obtain ⟨⟨a, ha, ea⟩, ⟨a2, ha2, ea2⟩, ⟨a3, ha3, ea3⟩, a4⟩ := hK.2.2.1
          unfold kNum
          rw [pk_us, pk_un (by omega), pk_un (by omega), pk_un (by omega), ea2, nI_add]
          exact ⟨⟨a, by omega, ea⟩, ⟨_, by omega, rfl⟩, ⟨a3, by omega, ea3⟩, a4⟩
    have hd2 : kDay (upd (M.2.2.1 2) 31 (M.2.2.1 2 31 + nI 1)) < 999 := by
        unfold kDay
        rw [pk_un (by omega)]
        rcases Nat.lt_or_ge (kDay (M.2.2.1 2)) 999 with z | z
        · exact z
        · exact absurd (by rw [hday.1, show kDay (M.2.2.1 2) = 999 from by omega]) c_10
    refine G.mcall (f' := fX6_passesNight) q2228 ck_X6_passesNight (c_X6_passesNight (M := ma (sKeep M u (nI 2)) 2 31 (M.2.2.1 2 31 + nI 1)) (b := b + 1) (n := n) (by rw [ma_k]; exact hK2) (by rw [ma_k]; exact hd2)) dX6_darkKept_33 (rV.k fun M_33 h_33 => ?_)
    rw [ma_k, ma_eq, mar_mar] at h_33
    have e2 : M_33.2.2.1 2 = kNight (upd (M.2.2.1 2) 31 (M.2.2.1 2 31 + nI 1)) n := (h_33.2.2.1 2 (by decide)).trans mar_s
    refine G.aload_n0 dX6_darkKept_36 ?_
    refine G.mgeta 2 fl_X6_24 dX6_darkKept_37 ?_
    refine G.bipush (v := nI 31) dX6_darkKept_40 (by decide) ?_
    refine G.miald (n := 5866) 2 _ dX6_darkKept_42 rfl (by omega) ?_
    rw [e2]
    refine G.ireturn dX6_darkKept_43 ?_
    exact ⟨_, rfl, _, rfl, rfl, h_33⟩
  · refine G.bipush (v := -3) dX6_darkKept_13 (by decide) ?_
    refine G.ireturn dX6_darkKept_15 ?_
    have e : oDarkK M n u = (-3, M) := if_pos c_10
    rw [e]
    exact ⟨_, rfl, _, rfl, rfl, mX.rf⟩
theorem sKeep_A {M M3 : MM} {u : Nat} {w : Int32} (h : mA M M3) : mA (sKeep M u w) (sKeep M3 u w) := by
  unfold sKeep
  rw [h.2.2.1 26 (by decide), h.2.2.1 2 (by decide)]
  exact cms (cmar h)
theorem c_X6_lightsKept {M : MM} {b n u : Nat} (hK : KOk (M.2.2.1 2) b n) (hu : u ≤ 16) (hM : M.1 28 = nI u) (crew : Int32) : MC E fX6_lightsKept L M ph [.int crew] (rI fun r M' => r = (oLightK M n u crew).1 ∧ mA (oLightK M n u crew).2 M') := by
  have h10 := hK.1.1
  have hday := hK.day
  refine Ct.of [some (.ref (L.1 52)), some (.int crew), none, none, none, none] rfl (Nat.le_of_ble_eq_true rfl) (show plainName RX6 = true by decide +kernel) rfl ?_
  refine G.iload_n1 dX6_lightsKept_0 ?_
  refine G.iconst (v := nI 1) dX6_lightsKept_1 (by decide) ?_
  refine G.sipush (v := nI 1023) dX6_lightsKept_2 (by decide) ?_
  refine G.scall (f' := fX6_lies) q1912 ck_X6_lies (c_X6_lies E _ _ _) dX6_lightsKept_5 (sI.k fun r_5 h_5 => ?_)
  replace h_5 := h_5.symm; subst h_5
  refine G.ifb_ne (tgt := 13) dX6_lightsKept_8 (by decide) (fun c_8 => ?_) (fun c_8 => ?_)
  · refine G.iconst (v := nI 0) dX6_lightsKept_13 (by decide) ?_
    refine G.istore_n2 dX6_lightsKept_14 ?_
    refine G.iconst (v := nI 0) dX6_lightsKept_15 (by decide) ?_
    refine G.istore_n3 dX6_lightsKept_16 ?_
    have q := of_decide_eq_true c_8
    obtain ⟨c, hc, rfl⟩ := zIn_of (k := crew) (b := 1023) ⟨by have := q.1; rw [t_nI (by omega)] at this ⊢; omega, q.2⟩ (by decide)
    have e0 : oLightK M n u (nI c) = if kOut c n then (-2, M) else if kMayN (M.2.2.1 2) c n = true ∧ nI (kNeed (M.2.2.1 2)) ≤ kWorthN (M.2.2.1 2) c n then (kWorthN (M.2.2.1 2) c n, mar (sKeep M u (nI 1)) 2 (kLit (M.2.2.1 2) c n)) else (-3, M) := by
      unfold oLightK
      rw [if_pos q, tNat_nI (by omega)]
    generalize oLightK M n u (nI c) = o at e0 ⊢
    -- the end: spread and a night
    have k192 : ∀ (M1 : MM) (w a3 : Int32) (a4 a5 : Option Value), o = (w, mar (sKeep M u (nI 1)) 2 (kLit (M.2.2.1 2) c n)) → kMayN (M.2.2.1 2) c n = true → mA (mar (sKeep M u (nI 1)) 2 (kGone (M.2.2.1 2) c n)) M1 → G E fX6_lightsKept (mFin E fX6_lightsKept L ph (rI fun r M' => r = o.1 ∧ mA o.2 M')) 192 [some (.ref (L.1 52)), some (.int (nI c)), some (.int w), some (.int a3), a4, a5] [] (movl L M1 ph) 0 0 := by
      intro M1 w a3 a4 a5 ho hmay hM1
      have hd : kDay (M.2.2.1 2) < 999 := by
        have : ∀ j, kMayN (M.2.2.1 2) c j = true → kDay (M.2.2.1 2) < 999 := by
          intro j
          induction j with
          | zero => exact of_decide_eq_true
          | succ j ih =>
            intro z
            unfold kMayN at z
            split at z
            · rw [Bool.and_eq_true] at z; exact ih z.1
            · exact ih z
        exact this n hmay
      have hg := hK.gone (c := c) n (Nat.le_refl n)
      have outer : ∀ d i M2 a5, i + d = n → mA (mar (sKeep M u (nI 1)) 2 (kSpread (kGone (M.2.2.1 2) c n) c n i)) M2 → G E fX6_lightsKept (mFin E fX6_lightsKept L ph (rI fun r M' => r = o.1 ∧ mA o.2 M')) 195 [some (.ref (L.1 52)), some (.int (nI c)), some (.int w), some (.int a3), some (.int (nI i)), a5] [] (movl L M2 ph) 0 0 := by
        intro d
        induction d with
        | zero =>
          intro i M2 a5 hi hx
          have hk2 := hg.spread (c := c) i (by omega)
          have e2 : M2.2.2.1 2 = kSpread (kGone (M.2.2.1 2) c n) c n i := (hx.2.2.1 2 (by decide)).trans mar_s
          rw [show i = n from by omega] at e2 hk2 hx
          refine G.iload4 dX6_lightsKept_195 ?_
          refine G.aload_n0 dX6_lightsKept_197 ?_
          refine G.mcall (f' := fX6_people) q1938 ck_X6_people (c_X6_people E L _ ph) dX6_lightsKept_198 (rI.k fun r_198 M_198 h_198 => ?_)
          obtain ⟨e_198, h_198⟩ := h_198; replace e_198 := e_198.symm; replace h_198 := h_198.symm; subst e_198; subst h_198
          rw [e2, hk2.1.2]
          refine G.icmp_ge (tgt := 294) dX6_lightsKept_201 (by decide) (fun c_201 => ?_) (fun c_201 => ?_)
          · refine G.aload_n0 dX6_lightsKept_294 ?_
            refine G.mgeta 2 fl_X6_24 dX6_lightsKept_295 ?_
            refine G.bipush (v := nI 30) dX6_lightsKept_298 (by decide) ?_
            refine G.dup2_11 dX6_lightsKept_300 rfl rfl ?_
            refine G.miald (n := 5866) 2 _ dX6_lightsKept_301 rfl (by omega) ?_
            rw [e2]
            refine G.iconst (v := nI 1) dX6_lightsKept_302 (by decide) ?_
            refine G.iadd dX6_lightsKept_303 ?_
            refine G.miast (n := 5866) 2 _ dX6_lightsKept_304 rfl (by omega) ?_
            refine G.aload_n0 dX6_lightsKept_305 ?_
            refine G.mcall (f' := fX6_passesNight) q2228 ck_X6_passesNight (c_X6_passesNight (M := ma M2 2 30 (kSpread (kGone (M.2.2.1 2) c n) c n n 30 + nI 1)) (b := b + 1) (n := n) (by rw [ma_k, e2]; exact hK.litA) (by rw [ma_k, e2]; exact Nat.lt_of_le_of_lt (Nat.le_of_eq (kLitA_day h10)) hd)) dX6_lightsKept_306 (rV.k fun M_306 h_306 => ?_)
            rw [ma_k, e2, ma_eq, mar_mar] at h_306
            refine G.iload_n2 dX6_lightsKept_309 ?_
            refine G.ireturn dX6_lightsKept_310 ?_
            rw [ho]
            refine ⟨_, rfl, _, rfl, rfl, ?_⟩
            have g5 := cmar (k := 2) (f := kLit (M.2.2.1 2) c n) hx
            rw [mar_mar] at g5
            exact g5.tr h_306 (by simp) (by simp)
          · exact absurd (nI_leI (by omega) (by omega) |>.mpr (by omega)) c_201
        | succ d ih =>
          intro i M2 a5 hi hx
          have hgo := fun M2 a5 => ih (i + 1) M2 a5 (by omega)
          have hk2 := hg.spread (c := c) i (by omega)
          have e2 : M2.2.2.1 2 = kSpread (kGone (M.2.2.1 2) c n) c n i := (hx.2.2.1 2 (by decide)).trans mar_s
          have hn1 : c.testBit i = true → kSpread (kGone (M.2.2.1 2) c n) c n (i + 1) = kTellN (kSpread (kGone (M.2.2.1 2) c n) c n i) i n := fun z => by rw [kSpread, if_pos z]
          have hn2 : c.testBit i = false → kSpread (kGone (M.2.2.1 2) c n) c n (i + 1) = kSpread (kGone (M.2.2.1 2) c n) c n i := fun z => by rw [kSpread, if_neg (by rw [z]; exact Bool.false_ne_true)]
          generalize kSpread (kGone (M.2.2.1 2) c n) c n (i + 1) = K3 at *
          generalize kSpread (kGone (M.2.2.1 2) c n) c n i = K2 at *
          clear ih
          have inner : ∀ d2 j M4, j + d2 = n → mA (mar (sKeep M u (nI 1)) 2 (kTellN K2 i j)) M4 → (c.testBit i = true ∨ j = 0) → G E fX6_lightsKept (mFin E fX6_lightsKept L ph (rI fun r M' => r = o.1 ∧ mA o.2 M')) 207 [some (.ref (L.1 52)), some (.int (nI c)), some (.int w), some (.int a3), some (.int (nI i)), some (.int (nI j))] [] (movl L M4 ph) 0 0 := by
            intro d2
            induction d2 with
            | zero =>
              intro j M4 hj hx4 hor
              have hk4 := hk2.tellN (p := i) j (by omega)
              have e4 : M4.2.2.1 2 = kTellN K2 i j := (hx4.2.2.1 2 (by decide)).trans mar_s
              refine G.iload5 dX6_lightsKept_207 ?_
              refine G.aload_n0 dX6_lightsKept_209 ?_
              refine G.mcall (f' := fX6_people) q1938 ck_X6_people (c_X6_people E L _ ph) dX6_lightsKept_210 (rI.k fun r_210 M_210 h_210 => ?_)
              obtain ⟨e_210, h_210⟩ := h_210; replace e_210 := e_210.symm; replace h_210 := h_210.symm; subst e_210; subst h_210
              rw [e4, hk4.1.2]
              refine G.icmp_ge (tgt := 288) dX6_lightsKept_213 (by decide) (fun c_213 => ?_) (fun c_213 => ?_)
              · refine G.iinc4 dX6_lightsKept_288 ?_
                try rw [show ∀ a : Nat, nI a + Int32.ofInt 1 = nI (a + 1) from fun a => nI_add a 1]
                refine G.goto (tgt := 195) dX6_lightsKept_291 (by decide) ?_
                refine hgo _ _ ?_
                rw [hn1 (hor.resolve_right (by omega)), ← show j = n from by omega]
                exact hx4
              · exact absurd (nI_leI (by omega) (by omega) |>.mpr (by omega)) c_213
            | succ d2 ih2 =>
              intro j M4 hj hx4 hor
              have hgo2 := fun M4 h => ih2 (j + 1) M4 (by omega) h
              clear ih2
              have hk4 := hk2.tellN (p := i) j (by omega)
              have e4 : M4.2.2.1 2 = kTellN K2 i j := (hx4.2.2.1 2 (by decide)).trans mar_s
              rw [show kTellN K2 i (j + 1) = kTell (kTellN K2 i j) i j from rfl] at hgo2
              have h00 : j = 0 → kTellN K2 i j = K2 := fun z => by rw [z]; rfl
              generalize kTellN K2 i j = K4 at *
              have hno : ¬ (¬ K4 j = nI 3 ∧ K4 (54 + 10 * i + j) = nI 1) → kTell K4 i j = K4 := fun z => if_neg z
              have hyes : (¬ K4 j = nI 3 ∧ K4 (54 + 10 * i + j) = nI 1) → kTell K4 i j = upd K4 (20 + j) (kLess (nI 2) (K4 (20 + j) + kSpoils K4 i j)) := fun z => if_pos z
              refine G.iload5 dX6_lightsKept_207 ?_
              refine G.aload_n0 dX6_lightsKept_209 ?_
              refine G.mcall (f' := fX6_people) q1938 ck_X6_people (c_X6_people E L _ ph) dX6_lightsKept_210 (rI.k fun r_210 M_210 h_210 => ?_)
              obtain ⟨e_210, h_210⟩ := h_210; replace e_210 := e_210.symm; replace h_210 := h_210.symm; subst e_210; subst h_210
              rw [e4, hk4.1.2]
              refine G.icmp_ge (tgt := 288) dX6_lightsKept_213 (by decide) (fun c_213 => ?_) (fun c_213 => ?_)
              · exact absurd ((nI_leI (by omega) (by omega)).mp c_213) (by omega)
              · refine G.iload_n1 dX6_lightsKept_216 ?_
                refine G.iload4 dX6_lightsKept_217 ?_
                refine G.scall (f' := fX6_isIn) q2211 ck_X6_isIn (c_isIn E c i (by omega) (by omega)) dX6_lightsKept_219 (sI.k fun r_219 h_219 => ?_)
                replace h_219 := h_219.symm; subst h_219
                refine G.ifb_eq (tgt := 288) dX6_lightsKept_222 (by decide) (fun c_222 => ?_) (fun c_222 => ?_)
                · refine G.iinc4 dX6_lightsKept_288 ?_
                  try rw [show ∀ a : Nat, nI a + Int32.ofInt 1 = nI (a + 1) from fun a => nI_add a 1]
                  refine G.goto (tgt := 195) dX6_lightsKept_291 (by decide) ?_
                  rcases hor with z | z
                  · rw [z] at c_222; cases c_222
                  · refine hgo _ _ ?_
                    rw [hn2 c_222, ← h00 z]
                    exact hx4
                · refine G.aload_n0 dX6_lightsKept_225 ?_
                  refine G.mgeta 2 fl_X6_24 dX6_lightsKept_226 ?_
                  refine G.iconst (v := nI 0) dX6_lightsKept_229 (by decide) ?_
                  refine G.iload5 dX6_lightsKept_230 ?_
                  first | with_reducible refine G.iaddn dX6_lightsKept_232 ?_ | refine G.iadd dX6_lightsKept_232 ?_
                  refine G.miald (n := 5866) 2 j dX6_lightsKept_233 (congrArg nI (Nat.zero_add j)) (by omega) ?_
                  refine G.iconst (v := nI 3) dX6_lightsKept_234 (by decide) ?_
                  rw [e4]
                  refine G.icmp_eq (tgt := 282) dX6_lightsKept_235 (by decide) (fun c_235 => ?_) (fun c_235 => ?_)
                  · refine G.iinc5 dX6_lightsKept_282 ?_
                    try rw [show ∀ a : Nat, nI a + Int32.ofInt 1 = nI (a + 1) from fun a => nI_add a 1]
                    refine G.goto (tgt := 207) dX6_lightsKept_285 (by decide) ?_
                    first
                      | exact hgo2 _ (by rw [hno (fun z => z.1 c_235)]; exact hx4) (Or.inl c_222)
                      | exact hgo2 _ (by rw [hno (fun z => q4 z.2)]; exact hx4) (Or.inl c_222)
                      | (refine hgo2 _ ?_ (Or.inl c_222)
                         rw [hyes ⟨c_235, q4⟩]
                         have g4 := cma (k := 2) (j := 20 + j) (v := kLess (nI 2) (K4 (20 + j) + kSpoils K4 i j)) (hx4.tr g1 (by simp) (by simp))
                         rw [ma_mar] at g4
                         exact g4)
                  · refine G.aload_n0 dX6_lightsKept_238 ?_
                    refine G.iload4 dX6_lightsKept_239 ?_
                    refine G.iload5 dX6_lightsKept_241 ?_
                    refine G.mcall (f' := fX6_doTalk) q2221 ck_X6_doTalk (c_X6_doTalk E L _ ph (a := i) (b := j) (by omega) (by omega)) dX6_lightsKept_243 (rI.k fun r_243 M_243 h_243 => ?_)
                    obtain ⟨e_243, h_243⟩ := h_243; replace e_243 := e_243.symm; replace h_243 := h_243.symm; subst e_243; subst h_243
                    refine G.ifb_eq (tgt := 282) dX6_lightsKept_246 (by decide) (fun c_246 => ?_) (fun c_246 => ?_)
                    · have q4 := of_decide_eq_false c_246
                      rw [e4] at q4
                      refine G.iinc5 dX6_lightsKept_282 ?_
                      try rw [show ∀ a : Nat, nI a + Int32.ofInt 1 = nI (a + 1) from fun a => nI_add a 1]
                      refine G.goto (tgt := 207) dX6_lightsKept_285 (by decide) ?_
                      first
                        | exact hgo2 _ (by rw [hno (fun z => z.1 c_235)]; exact hx4) (Or.inl c_222)
                        | exact hgo2 _ (by rw [hno (fun z => q4 z.2)]; exact hx4) (Or.inl c_222)
                        | (refine hgo2 _ ?_ (Or.inl c_222)
                           rw [hyes ⟨c_235, q4⟩]
                           have g4 := cma (k := 2) (j := 20 + j) (v := kLess (nI 2) (K4 (20 + j) + kSpoils K4 i j)) (hx4.tr g1 (by simp) (by simp))
                           rw [ma_mar] at g4
                           exact g4)
                    · have q4 := of_decide_eq_true c_246
                      rw [e4] at q4
                      refine G.aload_n0 dX6_lightsKept_249 ?_
                      refine G.mgeta 2 fl_X6_24 dX6_lightsKept_250 ?_
                      refine G.bipush (v := nI 20) dX6_lightsKept_253 (by decide) ?_
                      refine G.iload5 dX6_lightsKept_255 ?_
                      first | with_reducible refine G.iaddn dX6_lightsKept_257 ?_ | refine G.iadd dX6_lightsKept_257 ?_
                      refine G.iconst (v := nI 2) dX6_lightsKept_258 (by decide) ?_
                      refine G.aload_n0 dX6_lightsKept_259 ?_
                      refine G.mgeta 2 fl_X6_24 dX6_lightsKept_260 ?_
                      refine G.bipush (v := nI 20) dX6_lightsKept_263 (by decide) ?_
                      refine G.iload5 dX6_lightsKept_265 ?_
                      first | with_reducible refine G.iaddn dX6_lightsKept_267 ?_ | refine G.iadd dX6_lightsKept_267 ?_
                      refine G.miald (n := 5866) 2 _ dX6_lightsKept_268 rfl (by omega) ?_
                      rw [e4]
                      refine G.aload_n0 dX6_lightsKept_269 ?_
                      refine G.iload4 dX6_lightsKept_270 ?_
                      refine G.iload5 dX6_lightsKept_272 ?_
                      refine G.mcall (f' := fX6_spoilsBy) q2179 ck_X6_spoilsBy (c_X6_spoilsBy (M := M4) (b := b) (n := n) (p := i) (q := j) (by rw [e4]; exact hk4) (by omega) (by omega)) dX6_lightsKept_274 (rI.k fun r_274 M_274 h_274 => ?_)
                      obtain ⟨rfl, g1⟩ := h_274
                      rw [e4]
                      refine G.iadd dX6_lightsKept_277 ?_
                      refine G.scall (f' := fX6_lesser) q2225 ck_X6_lesser (c_X6_lesser E _ _) dX6_lightsKept_278 (sI.k fun r_278 h_278 => ?_)
                      replace h_278 := h_278.symm; subst h_278
                      refine G.miast (n := 5866) 2 _ dX6_lightsKept_281 rfl (by omega) ?_
                      refine G.iinc5 dX6_lightsKept_282 ?_
                      try rw [show ∀ a : Nat, nI a + Int32.ofInt 1 = nI (a + 1) from fun a => nI_add a 1]
                      refine G.goto (tgt := 207) dX6_lightsKept_285 (by decide) ?_
                      first
                        | exact hgo2 _ (by rw [hno (fun z => z.1 c_235)]; exact hx4) (Or.inl c_222)
                        | exact hgo2 _ (by rw [hno (fun z => q4 z.2)]; exact hx4) (Or.inl c_222)
                        | (refine hgo2 _ ?_ (Or.inl c_222)
                           rw [hyes ⟨c_235, q4⟩]
                           have g4 := cma (k := 2) (j := 20 + j) (v := kLess (nI 2) (K4 (20 + j) + kSpoils K4 i j)) (hx4.tr g1 (by simp) (by simp))
                           rw [ma_mar] at g4
                           exact g4)
          refine G.iload4 dX6_lightsKept_195 ?_
          refine G.aload_n0 dX6_lightsKept_197 ?_
          refine G.mcall (f' := fX6_people) q1938 ck_X6_people (c_X6_people E L _ ph) dX6_lightsKept_198 (rI.k fun r_198 M_198 h_198 => ?_)
          obtain ⟨e_198, h_198⟩ := h_198; replace e_198 := e_198.symm; replace h_198 := h_198.symm; subst e_198; subst h_198
          rw [e2, hk2.1.2]
          refine G.icmp_ge (tgt := 294) dX6_lightsKept_201 (by decide) (fun c_201 => ?_) (fun c_201 => ?_)
          · exact absurd ((nI_leI (by omega) (by omega)).mp c_201) (by omega)
          · refine G.iconst (v := nI 0) dX6_lightsKept_204 (by decide) ?_
            refine G.istore5 dX6_lightsKept_205 ?_
            exact inner n 0 M2 (by omega) hx (Or.inr rfl)
      refine G.iconst (v := nI 0) dX6_lightsKept_192 (by decide) ?_
      refine G.istore4 dX6_lightsKept_193 ?_
      exact outer n 0 M1 _ (by omega) hM1
    have k125 : ∀ (M3 : MM) (a4 : Int32) (a5 : Option Value), kOut c n = false → mA M M3 → G E fX6_lightsKept (mFin E fX6_lightsKept L ph (rI fun r M' => r = o.1 ∧ mA o.2 M')) 125 [some (.ref (L.1 52)), some (.int (nI c)), some (.int (kWorthN (M.2.2.1 2) c n)), some (.int (bI (kMayN (M.2.2.1 2) c n))), some (.int a4), a5] [] (movl L M3 ph) 0 0 := by
      intro M3 a4 a5 hout hx3
      have e3 : M3.2.2.1 2 = M.2.2.1 2 := hx3.2.2.1 2 (by decide)
      have hM3 : M3.1 28 = nI u := (hx3.1 28 (by decide)).trans hM
      rw [if_neg (by rw [hout]; exact Bool.false_ne_true)] at e0
      refine G.iload_n3 dX6_lightsKept_125 ?_
      refine G.ifb_eq (tgt := 147) dX6_lightsKept_126 (by decide) (fun c_126 => ?_) (fun c_126 => ?_)
      · refine G.bipush (v := -3) dX6_lightsKept_147 (by decide) ?_
        refine G.ireturn dX6_lightsKept_149 ?_
        rw [e0]
        first
          | rw [if_neg (show ¬ (kMayN (M.2.2.1 2) c n = true ∧ nI (kNeed (M.2.2.1 2)) ≤ kWorthN (M.2.2.1 2) c n) from fun z => (Bool.false_ne_true (c_126.symm.trans z.1)).elim)]
            exact ⟨_, rfl, _, rfl, rfl, hx3⟩
          | rw [if_neg (show ¬ (kMayN (M.2.2.1 2) c n = true ∧ nI (kNeed (M.2.2.1 2)) ≤ kWorthN (M.2.2.1 2) c n) from fun z => c_144 z.2)]
            exact ⟨_, rfl, _, rfl, rfl, hx3⟩
      · refine G.iload_n2 dX6_lightsKept_129 ?_
        refine G.aload_n0 dX6_lightsKept_130 ?_
        refine G.aload_n0 dX6_lightsKept_131 ?_
        refine G.mgeta 2 fl_X6_24 dX6_lightsKept_132 ?_
        refine G.bipush (v := nI 33) dX6_lightsKept_135 (by decide) ?_
        refine G.miald (n := 5866) 2 _ dX6_lightsKept_137 rfl (by omega) ?_
        rw [e3, hday.1]
        refine G.mcall (f' := fX6_fogOn) q2112 ck_X6_fogOn (c_X6_fogOn (M := M3) (b := b) (n := n) (by rw [e3]; exact hK) (kDay (M.2.2.1 2)) (by omega)) dX6_lightsKept_138 (rI.k fun r_138 M_138 h_138 => ?_)
        obtain ⟨e_138, h_138⟩ := h_138; replace e_138 := e_138.symm; replace h_138 := h_138.symm; subst e_138; subst h_138
        rw [e3]
        refine G.scall (f' := fX6_needOn) q2218 ck_X6_needOn (c_X6_needOn E (fogOf (M.2.2.1 2) (kDay (M.2.2.1 2)))) dX6_lightsKept_141 (sI.k fun r_141 h_141 => ?_)
        replace h_141 := h_141.symm; subst h_141
        refine G.icmp_ge (tgt := 150) dX6_lightsKept_144 (by decide) (fun c_144 => ?_) (fun c_144 => ?_)
        · have e9 : o = (kWorthN (M.2.2.1 2) c n, mar (sKeep M u (nI 1)) 2 (kLit (M.2.2.1 2) c n)) := by rw [e0, if_pos ⟨c_126, c_144⟩]
          have loop4 : ∀ d i M4 a5, i + d = n → mA (mar (sKeep M u (nI 1)) 2 (kGone (M.2.2.1 2) c i)) M4 → G E fX6_lightsKept (mFin E fX6_lightsKept L ph (rI fun r M' => r = o.1 ∧ mA o.2 M')) 158 [some (.ref (L.1 52)), some (.int (nI c)), some (.int (kWorthN (M.2.2.1 2) c n)), some (.int (bI (kMayN (M.2.2.1 2) c n))), some (.int (nI i)), a5] [] (movl L M4 ph) 0 0 := by
            intro d
            induction d with
            | zero =>
              intro i M4 a5 hi hx4
              have hk4 := hK.gone (c := c) i (by omega)
              have e4 : M4.2.2.1 2 = kGone (M.2.2.1 2) c i := (hx4.2.2.1 2 (by decide)).trans mar_s
              refine G.iload4 dX6_lightsKept_158 ?_
              refine G.aload_n0 dX6_lightsKept_160 ?_
              refine G.mcall (f' := fX6_people) q1938 ck_X6_people (c_X6_people E L _ ph) dX6_lightsKept_161 (rI.k fun r_161 M_161 h_161 => ?_)
              obtain ⟨e_161, h_161⟩ := h_161; replace e_161 := e_161.symm; replace h_161 := h_161.symm; subst e_161; subst h_161
              rw [e4, hk4.1.2]
              refine G.icmp_ge (tgt := 192) dX6_lightsKept_164 (by decide) (fun c_164 => ?_) (fun c_164 => ?_)
              · exact k192 M4 _ _ _ _ e9 c_126 (by rw [show i = n from by omega] at hx4; exact hx4)
              · exact absurd (nI_leI (by omega) (by omega) |>.mpr (by omega)) c_164
            | succ d ih =>
              intro i M4 a5 hi hx4
              have hk4 := hK.gone (c := c) i (by omega)
              have e4 : M4.2.2.1 2 = kGone (M.2.2.1 2) c i := (hx4.2.2.1 2 (by decide)).trans mar_s
              have hgo := fun M4 a5 => ih (i + 1) M4 a5 (by omega)
              clear ih
              have hn1 : c.testBit i = true → kGone (M.2.2.1 2) c (i + 1) = upd (kGone (M.2.2.1 2) c i) i (nI 3) := fun z => by rw [kGone, if_pos z]
              have hn2 : c.testBit i = false → kGone (M.2.2.1 2) c (i + 1) = kGone (M.2.2.1 2) c i := fun z => by rw [kGone, if_neg (by rw [z]; exact Bool.false_ne_true)]
              refine G.iload4 dX6_lightsKept_158 ?_
              refine G.aload_n0 dX6_lightsKept_160 ?_
              refine G.mcall (f' := fX6_people) q1938 ck_X6_people (c_X6_people E L _ ph) dX6_lightsKept_161 (rI.k fun r_161 M_161 h_161 => ?_)
              obtain ⟨e_161, h_161⟩ := h_161; replace e_161 := e_161.symm; replace h_161 := h_161.symm; subst e_161; subst h_161
              rw [e4, hk4.1.2]
              refine G.icmp_ge (tgt := 192) dX6_lightsKept_164 (by decide) (fun c_164 => ?_) (fun c_164 => ?_)
              · exact absurd ((nI_leI (by omega) (by omega)).mp c_164) (by omega)
              · refine G.iload_n1 dX6_lightsKept_167 ?_
                refine G.iload4 dX6_lightsKept_168 ?_
                refine G.scall (f' := fX6_isIn) q2211 ck_X6_isIn (c_isIn E c i (by omega) (by omega)) dX6_lightsKept_170 (sI.k fun r_170 h_170 => ?_)
                replace h_170 := h_170.symm; subst h_170
                refine G.ifb_eq (tgt := 186) dX6_lightsKept_173 (by decide) (fun c_173 => ?_) (fun c_173 => ?_)
                · refine G.iinc4 dX6_lightsKept_186 ?_
                  try rw [show ∀ a : Nat, nI a + Int32.ofInt 1 = nI (a + 1) from fun a => nI_add a 1]
                  refine G.goto (tgt := 158) dX6_lightsKept_189 (by decide) ?_
                  first
                    | exact hgo _ _ (by rw [hn2 c_173]; exact hx4)
                    | (refine hgo _ _ ?_
                       rw [hn1 c_173]
                       have g4 := cma (k := 2) (j := i) (v := nI 3) hx4
                       rw [ma_mar] at g4
                       exact g4)
                · refine G.aload_n0 dX6_lightsKept_176 ?_
                  refine G.mgeta 2 fl_X6_24 dX6_lightsKept_177 ?_
                  refine G.iconst (v := nI 0) dX6_lightsKept_180 (by decide) ?_
                  refine G.iload4 dX6_lightsKept_181 ?_
                  first | with_reducible refine G.iaddn dX6_lightsKept_183 ?_ | refine G.iadd dX6_lightsKept_183 ?_
                  refine G.iconst (v := nI 3) dX6_lightsKept_184 (by decide) ?_
                  refine G.miast (n := 5866) 2 i dX6_lightsKept_185 (congrArg nI (Nat.zero_add i)) (by omega) ?_
                  refine G.iinc4 dX6_lightsKept_186 ?_
                  try rw [show ∀ a : Nat, nI a + Int32.ofInt 1 = nI (a + 1) from fun a => nI_add a 1]
                  refine G.goto (tgt := 158) dX6_lightsKept_189 (by decide) ?_
                  first
                    | exact hgo _ _ (by rw [hn2 c_173]; exact hx4)
                    | (refine hgo _ _ ?_
                       rw [hn1 c_173]
                       have g4 := cma (k := 2) (j := i) (v := nI 3) hx4
                       rw [ma_mar] at g4
                       exact g4)
          refine G.aload_n0 dX6_lightsKept_150 ?_
          refine G.iconst (v := nI 1) dX6_lightsKept_151 (by decide) ?_
          refine G.mcall (f' := fX6_keeps) q2195 ck_X6_keeps (c_X6_keeps hu hM3 _) dX6_lightsKept_152 (rV.k fun M_152 h_152 => ?_)
          replace h_152 := h_152.symm; subst h_152
          refine G.iconst (v := nI 0) dX6_lightsKept_155 (by decide) ?_
          refine G.istore4 dX6_lightsKept_156 ?_
          exact loop4 n 0 _ _ (by omega) (by rw [show kGone (M.2.2.1 2) c 0 = (sKeep M u (nI 1)).2.2.1 2 from rfl, mar_id]; exact sKeep_A hx3)
        · refine G.bipush (v := -3) dX6_lightsKept_147 (by decide) ?_
          refine G.ireturn dX6_lightsKept_149 ?_
          rw [e0]
          first
            | rw [if_neg (show ¬ (kMayN (M.2.2.1 2) c n = true ∧ nI (kNeed (M.2.2.1 2)) ≤ kWorthN (M.2.2.1 2) c n) from fun z => (Bool.false_ne_true (c_126.symm.trans z.1)).elim)]
              exact ⟨_, rfl, _, rfl, rfl, hx3⟩
            | rw [if_neg (show ¬ (kMayN (M.2.2.1 2) c n = true ∧ nI (kNeed (M.2.2.1 2)) ≤ kWorthN (M.2.2.1 2) c n) from fun z => c_144 z.2)]
              exact ⟨_, rfl, _, rfl, rfl, hx3⟩
    have loop3 : ∀ d i M3 a5, i + d = n → kOut c n = false → mA M M3 → G E fX6_lightsKept (mFin E fX6_lightsKept L ph (rI fun r M' => r = o.1 ∧ mA o.2 M')) 70 [some (.ref (L.1 52)), some (.int (nI c)), some (.int (kWorthN (M.2.2.1 2) c i)), some (.int (bI (kMayN (M.2.2.1 2) c i))), some (.int (nI i)), a5] [] (movl L M3 ph) 0 0 := by
      intro d
      induction d with
      | zero =>
        intro i M3 a5 hi hout hx3
        have e3 : M3.2.2.1 2 = M.2.2.1 2 := hx3.2.2.1 2 (by decide)
        refine G.iload4 dX6_lightsKept_70 ?_
        refine G.aload_n0 dX6_lightsKept_72 ?_
        refine G.mcall (f' := fX6_people) q1938 ck_X6_people (c_X6_people E L _ ph) dX6_lightsKept_73 (rI.k fun r_73 M_73 h_73 => ?_)
        obtain ⟨e_73, h_73⟩ := h_73; replace e_73 := e_73.symm; replace h_73 := h_73.symm; subst e_73; subst h_73
        rw [e3, hK.1.2]
        refine G.icmp_ge (tgt := 125) dX6_lightsKept_76 (by decide) (fun c_76 => ?_) (fun c_76 => ?_)
        · rw [show i = n from by omega]
          exact k125 M3 _ _ hout hx3
        · exact absurd (nI_leI (by omega) (by omega) |>.mpr (by omega)) c_76
      | succ d ih =>
        intro i M3 a5 hi hout hx3
        have e3 : M3.2.2.1 2 = M.2.2.1 2 := hx3.2.2.1 2 (by decide)
        have hgo := fun M3 a5 => ih (i + 1) M3 a5 (by omega) hout
        clear ih
        refine G.iload4 dX6_lightsKept_70 ?_
        refine G.aload_n0 dX6_lightsKept_72 ?_
        refine G.mcall (f' := fX6_people) q1938 ck_X6_people (c_X6_people E L _ ph) dX6_lightsKept_73 (rI.k fun r_73 M_73 h_73 => ?_)
        obtain ⟨e_73, h_73⟩ := h_73; replace e_73 := e_73.symm; replace h_73 := h_73.symm; subst e_73; subst h_73
        rw [e3, hK.1.2]
        refine G.icmp_ge (tgt := 125) dX6_lightsKept_76 (by decide) (fun c_76 => ?_) (fun c_76 => ?_)
        · exact absurd ((nI_leI (by omega) (by omega)).mp c_76) (by omega)
        · refine G.iload_n1 dX6_lightsKept_79 ?_
          refine G.iload4 dX6_lightsKept_80 ?_
          refine G.scall (f' := fX6_isIn) q2211 ck_X6_isIn (c_isIn E c i (by omega) (by omega)) dX6_lightsKept_82 (sI.k fun r_82 h_82 => ?_)
          replace h_82 := h_82.symm; subst h_82
          refine G.ifb_ne (tgt := 91) dX6_lightsKept_85 (by decide) (fun c_85 => ?_) (fun c_85 => ?_)
          · refine G.iload_n3 dX6_lightsKept_91 ?_
            refine G.ifb_eq (tgt := 108) dX6_lightsKept_92 (by decide) (fun c_92 => ?_) (fun c_92 => ?_)
            · refine G.iconst (v := nI 0) dX6_lightsKept_108 (by decide) ?_
              have k109 : ∀ (mm : Bool) (M5 : MM), mm = (kMayN (M.2.2.1 2) c i && kMay (M.2.2.1 2) i) → mA M M5 → G E fX6_lightsKept (mFin E fX6_lightsKept L ph (rI fun r M' => r = o.1 ∧ mA o.2 M')) 109 [some (.ref (L.1 52)), some (.int (nI c)), some (.int (kWorthN (M.2.2.1 2) c i)), some (.int (bI (kMayN (M.2.2.1 2) c i))), some (.int (nI i)), a5] [.int (bI mm)] (movl L M5 ph) 0 0 := by
                intro mm M5 hmm hx5
                have e5 : M5.2.2.1 2 = M.2.2.1 2 := hx5.2.2.1 2 (by decide)
                refine G.istore_n3 dX6_lightsKept_109 ?_
                refine G.iload_n2 dX6_lightsKept_110 ?_
                refine G.aload_n0 dX6_lightsKept_111 ?_
                refine G.iload4 dX6_lightsKept_112 ?_
                refine G.mcall (f' := fX6_worthOf) q1966 ck_X6_worthOf (c_X6_worthOf E L _ ph (k := i) (by omega)) dX6_lightsKept_114 (rI.k fun r_114 M_114 h_114 => ?_)
                obtain ⟨e_114, h_114⟩ := h_114; replace e_114 := e_114.symm; replace h_114 := h_114.symm; subst e_114; subst h_114
                refine G.iadd dX6_lightsKept_117 ?_
                refine G.istore_n2 dX6_lightsKept_118 ?_
                refine G.iinc4 dX6_lightsKept_119 ?_
                try rw [show ∀ a : Nat, nI a + Int32.ofInt 1 = nI (a + 1) from fun a => nI_add a 1]
                refine G.goto (tgt := 70) dX6_lightsKept_122 (by decide) ?_
                have := hgo M5 a5 hx5
                rw [kWorthN, kMayN, if_pos c_85, if_pos c_85, ← hmm] at this
                rw [show sWorth M5 i = wOf (M.2.2.1 2) i from by rw [← e5]; rfl]
                exact this
              first
                | exact k109 false M3 (by rw [c_92]; rfl) hx3
                | exact k109 false _ (by rw [c_101, Bool.and_false]) (hx3.tr g1 (by simp) (by simp))
                | exact k109 true _ (by rw [c_92, c_101]; rfl) (hx3.tr g1 (by simp) (by simp))
            · refine G.aload_n0 dX6_lightsKept_95 ?_
              refine G.iload4 dX6_lightsKept_96 ?_
              refine G.mcall (f' := fX6_mayLight) q2214 ck_X6_mayLight (c_X6_mayLight (M := M3) (b := b) (n := n) (p := i) (by rw [e3]; exact hK) (by omega)) dX6_lightsKept_98 (rI.k fun r_98 M_98 h_98 => ?_)
              obtain ⟨rfl, g1⟩ := h_98
              rw [e3]
              refine G.ifb_eq (tgt := 108) dX6_lightsKept_101 (by decide) (fun c_101 => ?_) (fun c_101 => ?_)
              · refine G.iconst (v := nI 0) dX6_lightsKept_108 (by decide) ?_
                have k109 : ∀ (mm : Bool) (M5 : MM), mm = (kMayN (M.2.2.1 2) c i && kMay (M.2.2.1 2) i) → mA M M5 → G E fX6_lightsKept (mFin E fX6_lightsKept L ph (rI fun r M' => r = o.1 ∧ mA o.2 M')) 109 [some (.ref (L.1 52)), some (.int (nI c)), some (.int (kWorthN (M.2.2.1 2) c i)), some (.int (bI (kMayN (M.2.2.1 2) c i))), some (.int (nI i)), a5] [.int (bI mm)] (movl L M5 ph) 0 0 := by
                  intro mm M5 hmm hx5
                  have e5 : M5.2.2.1 2 = M.2.2.1 2 := hx5.2.2.1 2 (by decide)
                  refine G.istore_n3 dX6_lightsKept_109 ?_
                  refine G.iload_n2 dX6_lightsKept_110 ?_
                  refine G.aload_n0 dX6_lightsKept_111 ?_
                  refine G.iload4 dX6_lightsKept_112 ?_
                  refine G.mcall (f' := fX6_worthOf) q1966 ck_X6_worthOf (c_X6_worthOf E L _ ph (k := i) (by omega)) dX6_lightsKept_114 (rI.k fun r_114 M_114 h_114 => ?_)
                  obtain ⟨e_114, h_114⟩ := h_114; replace e_114 := e_114.symm; replace h_114 := h_114.symm; subst e_114; subst h_114
                  refine G.iadd dX6_lightsKept_117 ?_
                  refine G.istore_n2 dX6_lightsKept_118 ?_
                  refine G.iinc4 dX6_lightsKept_119 ?_
                  try rw [show ∀ a : Nat, nI a + Int32.ofInt 1 = nI (a + 1) from fun a => nI_add a 1]
                  refine G.goto (tgt := 70) dX6_lightsKept_122 (by decide) ?_
                  have := hgo M5 a5 hx5
                  rw [kWorthN, kMayN, if_pos c_85, if_pos c_85, ← hmm] at this
                  rw [show sWorth M5 i = wOf (M.2.2.1 2) i from by rw [← e5]; rfl]
                  exact this
                first
                  | exact k109 false M3 (by rw [c_92]; rfl) hx3
                  | exact k109 false _ (by rw [c_101, Bool.and_false]) (hx3.tr g1 (by simp) (by simp))
                  | exact k109 true _ (by rw [c_92, c_101]; rfl) (hx3.tr g1 (by simp) (by simp))
              · refine G.iconst (v := nI 1) dX6_lightsKept_104 (by decide) ?_
                refine G.goto (tgt := 109) dX6_lightsKept_105 (by decide) ?_
                have k109 : ∀ (mm : Bool) (M5 : MM), mm = (kMayN (M.2.2.1 2) c i && kMay (M.2.2.1 2) i) → mA M M5 → G E fX6_lightsKept (mFin E fX6_lightsKept L ph (rI fun r M' => r = o.1 ∧ mA o.2 M')) 109 [some (.ref (L.1 52)), some (.int (nI c)), some (.int (kWorthN (M.2.2.1 2) c i)), some (.int (bI (kMayN (M.2.2.1 2) c i))), some (.int (nI i)), a5] [.int (bI mm)] (movl L M5 ph) 0 0 := by
                  intro mm M5 hmm hx5
                  have e5 : M5.2.2.1 2 = M.2.2.1 2 := hx5.2.2.1 2 (by decide)
                  refine G.istore_n3 dX6_lightsKept_109 ?_
                  refine G.iload_n2 dX6_lightsKept_110 ?_
                  refine G.aload_n0 dX6_lightsKept_111 ?_
                  refine G.iload4 dX6_lightsKept_112 ?_
                  refine G.mcall (f' := fX6_worthOf) q1966 ck_X6_worthOf (c_X6_worthOf E L _ ph (k := i) (by omega)) dX6_lightsKept_114 (rI.k fun r_114 M_114 h_114 => ?_)
                  obtain ⟨e_114, h_114⟩ := h_114; replace e_114 := e_114.symm; replace h_114 := h_114.symm; subst e_114; subst h_114
                  refine G.iadd dX6_lightsKept_117 ?_
                  refine G.istore_n2 dX6_lightsKept_118 ?_
                  refine G.iinc4 dX6_lightsKept_119 ?_
                  try rw [show ∀ a : Nat, nI a + Int32.ofInt 1 = nI (a + 1) from fun a => nI_add a 1]
                  refine G.goto (tgt := 70) dX6_lightsKept_122 (by decide) ?_
                  have := hgo M5 a5 hx5
                  rw [kWorthN, kMayN, if_pos c_85, if_pos c_85, ← hmm] at this
                  rw [show sWorth M5 i = wOf (M.2.2.1 2) i from by rw [← e5]; rfl]
                  exact this
                first
                  | exact k109 false M3 (by rw [c_92]; rfl) hx3
                  | exact k109 false _ (by rw [c_101, Bool.and_false]) (hx3.tr g1 (by simp) (by simp))
                  | exact k109 true _ (by rw [c_92, c_101]; rfl) (hx3.tr g1 (by simp) (by simp))
          · refine G.goto (tgt := 119) dX6_lightsKept_88 (by decide) ?_
            refine G.iinc4 dX6_lightsKept_119 ?_
            try rw [show ∀ a : Nat, nI a + Int32.ofInt 1 = nI (a + 1) from fun a => nI_add a 1]
            refine G.goto (tgt := 70) dX6_lightsKept_122 (by decide) ?_
            have := hgo M3 a5 hx3
            rw [kWorthN, kMayN, if_neg (by rw [c_85]; exact Bool.false_ne_true), if_neg (by rw [c_85]; exact Bool.false_ne_true)] at this
            exact this
    have loop2 : ∀ d i a4 a5, i + d = 10 → (∀ p, p < i → c.testBit p = true → p < n) → G E fX6_lightsKept (mFin E fX6_lightsKept L ph (rI fun r M' => r = o.1 ∧ mA o.2 M')) 17 [some (.ref (L.1 52)), some (.int (nI c)), some (.int (nI 0)), some (.int (nI i)), a4, a5] [] (movl L M ph) 0 0 := by
      intro d
      induction d with
      | zero =>
        intro i a4 a5 hi hp
        refine G.iload_n3 dX6_lightsKept_17 ?_
        refine G.bipush (v := nI 10) dX6_lightsKept_18 (by decide) ?_
        refine G.icmp_ge (tgt := 48) dX6_lightsKept_20 (by decide) (fun c_20 => ?_) (fun c_20 => ?_)
        · refine G.aload_n0 dX6_lightsKept_48 ?_
          refine G.mgeta 2 fl_X6_24 dX6_lightsKept_49 ?_
          refine G.bipush (v := nI 33) dX6_lightsKept_52 (by decide) ?_
          refine G.miald (n := 5866) 2 _ dX6_lightsKept_54 rfl (by omega) ?_
          refine G.sipush (v := nI 999) dX6_lightsKept_55 (by decide) ?_
          rw [hday.1]
          refine G.icmp_ge (tgt := 65) dX6_lightsKept_58 (by decide) (fun c_58 => ?_) (fun c_58 => ?_)
          · have n_58 : 999 ≤ kDay (M.2.2.1 2) := (nI_leI (by omega) (by omega)).mp c_58
            refine G.iconst (v := nI 0) dX6_lightsKept_65 (by decide) ?_
            refine G.istore_n3 dX6_lightsKept_66 ?_
            refine G.iconst (v := nI 0) dX6_lightsKept_67 (by decide) ?_
            refine G.istore4 dX6_lightsKept_68 ?_
            have hout := kOut_f (n := n) (c := c) (fun p q => hp p (by omega))
            have := loop3 n 0 M a5 (by omega) hout mX.rf
            first
              | (rw [show kMayN (M.2.2.1 2) c 0 = true from decide_eq_true n_58] at this
                 exact this)
              | (rw [show kMayN (M.2.2.1 2) c 0 = false from decide_eq_false (Nat.not_lt.mpr n_58)] at this
                 exact this)
          · have n_58 : kDay (M.2.2.1 2) < 999 := Nat.lt_of_not_le (fun z => c_58 ((nI_leI (by omega) (by omega)).mpr z))
            refine G.iconst (v := nI 1) dX6_lightsKept_61 (by decide) ?_
            refine G.goto (tgt := 66) dX6_lightsKept_62 (by decide) ?_
            refine G.istore_n3 dX6_lightsKept_66 ?_
            refine G.iconst (v := nI 0) dX6_lightsKept_67 (by decide) ?_
            refine G.istore4 dX6_lightsKept_68 ?_
            have hout := kOut_f (n := n) (c := c) (fun p q => hp p (by omega))
            have := loop3 n 0 M a5 (by omega) hout mX.rf
            first
              | (rw [show kMayN (M.2.2.1 2) c 0 = true from decide_eq_true n_58] at this
                 exact this)
              | (rw [show kMayN (M.2.2.1 2) c 0 = false from decide_eq_false (Nat.not_lt.mpr n_58)] at this
                 exact this)
        · exact absurd (nI_leI (by omega) (by omega) |>.mpr (by omega)) c_20
      | succ d ih =>
        intro i a4 a5 hi hp
        refine G.iload_n3 dX6_lightsKept_17 ?_
        refine G.bipush (v := nI 10) dX6_lightsKept_18 (by decide) ?_
        refine G.icmp_ge (tgt := 48) dX6_lightsKept_20 (by decide) (fun c_20 => ?_) (fun c_20 => ?_)
        · exact absurd ((nI_leI (by omega) (by omega)).mp c_20) (by omega)
        · refine G.iload_n1 dX6_lightsKept_23 ?_
          refine G.iload_n3 dX6_lightsKept_24 ?_
          refine G.scall (f' := fX6_isIn) q2211 ck_X6_isIn (c_isIn E c i (by omega) (by omega)) dX6_lightsKept_25 (sI.k fun r_25 h_25 => ?_)
          replace h_25 := h_25.symm; subst h_25
          refine G.ifb_eq (tgt := 42) dX6_lightsKept_28 (by decide) (fun c_28 => ?_) (fun c_28 => ?_)
          · refine G.iinc3 dX6_lightsKept_42 ?_
            try rw [show ∀ a : Nat, nI a + Int32.ofInt 1 = nI (a + 1) from fun a => nI_add a 1]
            refine G.goto (tgt := 17) dX6_lightsKept_45 (by decide) ?_
            refine ih (i + 1) _ _ (by omega) (fun p hp1 hp2 => ?_)
            rcases Nat.lt_or_ge p i with y | y
            · exact hp p y hp2
            · rw [show p = i from by omega] at hp2 ⊢
              first
                | (rw [hp2] at c_28; cases c_28; done)
                | (have := (of_decide_eq_true c_36).2
                   rw [t_nI (by omega)] at this
                   omega)
          · refine G.aload_n0 dX6_lightsKept_31 ?_
            refine G.iload_n3 dX6_lightsKept_32 ?_
            refine G.mcall (f' := fX6_isPerson) q1950 ck_X6_isPerson (c_X6_isPerson E L M ph (nI i) h10 hK.1.2) dX6_lightsKept_33 (rI.k fun r_33 M_33 h_33 => ?_)
            obtain ⟨e_33, h_33⟩ := h_33; replace e_33 := e_33.symm; replace h_33 := h_33.symm; subst e_33; subst h_33
            refine G.ifb_ne (tgt := 42) dX6_lightsKept_36 (by decide) (fun c_36 => ?_) (fun c_36 => ?_)
            · refine G.iinc3 dX6_lightsKept_42 ?_
              try rw [show ∀ a : Nat, nI a + Int32.ofInt 1 = nI (a + 1) from fun a => nI_add a 1]
              refine G.goto (tgt := 17) dX6_lightsKept_45 (by decide) ?_
              refine ih (i + 1) _ _ (by omega) (fun p hp1 hp2 => ?_)
              rcases Nat.lt_or_ge p i with y | y
              · exact hp p y hp2
              · rw [show p = i from by omega] at hp2 ⊢
                first
                  | (rw [hp2] at c_28; cases c_28; done)
                  | (have := (of_decide_eq_true c_36).2
                     rw [t_nI (by omega)] at this
                     omega)
            · refine G.bipush (v := -2) dX6_lightsKept_39 (by decide) ?_
              refine G.ireturn dX6_lightsKept_41 ?_
              rw [if_pos (kOut_t (show i < 10 from by omega) c_28 (Nat.le_of_not_lt (fun z => of_decide_eq_false c_36 (by rw [t_nI (by omega)]; omega))))] at e0
              rw [e0]
              exact ⟨_, rfl, _, rfl, rfl, mX.rf⟩
    exact loop2 10 0 _ _ rfl (fun p hp => absurd hp (by omega))
  · refine G.iconst (v := -1) dX6_lightsKept_11 (by decide) ?_
    refine G.ireturn dX6_lightsKept_12 ?_
    have e : oLightK M n u crew = (-1, M) := if_neg (of_decide_eq_false c_8)
    rw [e]
    exact ⟨_, rfl, _, rfl, rfl, mX.rf⟩
end Light
