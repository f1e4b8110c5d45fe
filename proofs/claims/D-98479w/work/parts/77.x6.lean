/-! LITSTRANGERS TELLS: clauses, texts of laws -/
def rAl {α : Type} (one : Nat → α → Prop) : List Nat → List α → Prop
  | [], [] => True
  | a :: as, t :: ts => one a t ∧ rAl one as ts
  | _, _ => False
/-- at a lies a law's clause -/
def rCl (x0 : Nat) (ph : HP) (a : Nat) (c : Cl) : Prop := ∃ (hd : Nat) (sv tv : Value) (told : Int64), ph a = some (.inr (16, [.int (nI hd), sv, tv, .long told])) ∧ c.1 = hd + 1 ∧ hd < 5 ∧ ((c.2.1 = none ∧ sv = .null ∧ hd = 4) ∨ ∃ s b, c.2.1 = some s ∧ sv = .ref b ∧ hd < 4 ∧ rSm x0 false ph 60 b s) ∧ ((c.2.2.2 = none ∧ tv = .null) ∨ ∃ t b, c.2.2.2 = some t ∧ tv = .ref b ∧ rTs x0 false ph 60 b t)
/-- at a lies a law -/
def rText (x0 : Nat) (ph : HP) (a : Nat) (cs : List Cl) : Prop := ∃ (b n : Nat) (g : Nat → Option Nat) (as : List Nat), ph a = some (.inr (4, [.ref b])) ∧ ph b = some (.inl (7, n, .inr (.inr (.inr (.inr g))))) ∧ n < 1000 ∧ as.length = n ∧ (∀ i (h : i < as.length), g i = some as[i]) ∧ rAl (rCl x0 ph) as cs
theorem xov_told {L : XL} {D : XD} {ph : HP} {a : Nat} {h s q : Value} {t w : Int64} (hB : xdis L D ph) (e : ph a = some (.inr (16, [h, s, q, .long t]))) : jup (xov L D ph) a (.inr (16, [h, s, q, .long w])) = xov L (xt D a w) ph := by
  funext z
  by_cases hz : z = a
  · subst hz
    rw [jup_s, xov_off (D := xt D z w) (xoff_of hB e), e]
    show _ = some (Sum.inr (16, [h, s, q, Value.long (vp_updL D.2.2.2.2.2 z w z)]) : HE)
    rw [show vp_updL D.2.2.2.2.2 z w z = w from if_pos rfl]
  · rw [jup_n hz]
    unfold xov
    cases h1 : (List.range 159).find? (fun k => xlive D k && L.1 k == z) with
    | some j =>
      rw [show (List.range 159).find? (fun k => xlive (xt D a w) k && L.1 k == z) = some j from h1]
      rfl
    | none =>
      rw [show (List.range 159).find? (fun k => xlive (xt D a w) k && L.1 k == z) = none from h1]
      dsimp only
      have hx : ∀ x : HE, xtold (xt D a w).2.2.2.2.2 z x = xtold D.2.2.2.2.2 z x := by
        intro x
        have h9 : (xt D a w).2.2.2.2.2 z = D.2.2.2.2.2 z := if_neg hz
        unfold xtold
        split
        · rw [h9]
        · rfl
      cases ph z with
      | none => rfl
      | some x => exact congrArg some (hx x).symm
def p15 (k : Nat) : Bool := k == 15
/-- what a clause tells, of those that tell -/
def zRaw (cs : List Cl) (head : Nat) (e : En) (without : Int64) : Int64 := cs.foldl (fun told c => if c.1 = head ∧ zHolds c.2.2.2 e = true then (match zTold c.2.1 e with
  | none => told
  | some v => v) else told) without
def zSays (c : Cl) (e : En) : Bool := zHolds c.2.2.2 e && (zTold c.2.1 e).isSome
theorem envA_X {D D' : XD} {e : En} (h : envA D e) (hx : xX p15 D D') : envA D' e := by
  intro i hi
  rw [(hx.1 16 rfl).2.2.1]
  exact h i hi
section Texts
variable {E : JE} {L : XL} {ph : HP} {e : En}
theorem c_holds {D : XD} {a : Nat} {c : Cl} (hB : xdis L D ph) (hE : envA D e) (hc : rCl (L.1 0) ph a c) : Ct E fX16_holds [.ref a, .ref (L.1 15)] (xov L D ph) (pI fun r h' => ∃ D', h' = xov L D' ph ∧ xX p15 D D' ∧ r = bI (zSays c e) ∧ (zSays c e = true → ∀ s v, c.2.1 = some s → s e = some v → D'.2.2.2.2.2 a = v)) jNo := by
  obtain ⟨hd, sv, tv, told, ha, h1, h2, h3, h4⟩ := hc
  have hx0 : xX p15 D (xs D 15 1 (nI 0)) := xX_s xX.rf rfl
  have hB0 : xdis L (xs D 15 1 (nI 0)) ph := hB
  have hE0 : envA (xs D 15 1 (nI 0)) e := hE
  -- the sum, when the test holds
  have k32 : ∀ D1, xX p15 D D1 → D1.1 15 1 = nI 0 → zHolds c.2.2.2 e = true → G E fX16_holds (jFin E fX16_holds (pI fun r h' => ∃ D', h' = xov L D' ph ∧ xX p15 D D' ∧ r = bI (zSays c e) ∧ (zSays c e = true → ∀ s v, c.2.1 = some s → s e = some v → D'.2.2.2.2.2 a = v)) jNo) 32 [some (.ref a), some (.ref (L.1 15))] [] (xov L D1 ph) 0 0 := by
    intro D1 hx1 hb1 hh
    have hB1 := xdis_X hB hx1
    have hE1 := envA_X hE hx1
    have ha1 := xclause (D := D1) hB1 ha
    have hz : zSays c e = (zTold c.2.1 e).isSome := by unfold zSays; rw [hh, Bool.true_and]
    rw [hz]
    have k52 : ∀ (D2 : XD) (w : Int64) (o : Option Int64), xX p15 D D2 → D2.1 15 1 = bI o.isNone → o = zTold c.2.1 e → (∀ s v, c.2.1 = some s → s e = some v → w = v) → G E fX16_holds (jFin E fX16_holds (pI fun r h' => ∃ D', h' = xov L D' ph ∧ xX p15 D D' ∧ r = bI (zTold c.2.1 e).isSome ∧ ((zTold c.2.1 e).isSome = true → ∀ s v, c.2.1 = some s → s e = some v → D'.2.2.2.2.2 a = v)) jNo) 52 [some (.ref a), some (.ref (L.1 15))] [.long w, .ref a] (xov L D2 ph) 0 0 := by
      intro D2 w o hx2 hb2 ho hw
      have hB2 := xdis_X hB hx2
      have ha2 := xclause (D := D2) hB2 ha
      rw [← ho]
      refine G.putfield fp_X16_38 (by assumption) dX16_holds_52 ?_
      rw [show ([Value.int (nI hd), sv, tv, Value.long (D2.2.2.2.2.2 a)].set 3 (.long w)) = [Value.int (nI hd), sv, tv, Value.long w] from rfl, xov_told hB2 ha]
      refine G.aload_n1 dX16_holds_55 ?_
      refine G.xgeti 15 1 fl_X16_21 dX16_holds_56 ?_
      rw [show (xt D2 a w).1 15 1 = bI o.isNone from hb2]
      refine G.ifb_ne (tgt := 66) dX16_holds_59 (by decide) (fun c_59 => ?_) (fun c_59 => ?_)
      · refine G.iconst (v := nI 0) dX16_holds_66 (by decide) ?_
        refine G.ireturn dX16_holds_67 ?_ (hn := by first | rfl | exact bI_nar _)
        first
        | (refine ⟨_, rfl, xt D2 a w, rfl, hx2, ?_, fun _ s v q1 q2 => ?_⟩
           · rw [← Option.not_isNone, c_59]; rfl
           · rw [← hw s v q1 q2]
             exact if_pos rfl)
      · refine G.iconst (v := nI 1) dX16_holds_62 (by decide) ?_
        refine G.goto (tgt := 67) dX16_holds_63 (by decide) ?_
        refine G.ireturn dX16_holds_67 ?_ (hn := by first | rfl | exact bI_nar _)
        first
        | (refine ⟨_, rfl, xt D2 a w, rfl, hx2, ?_, fun _ s v q1 q2 => ?_⟩
           · rw [← Option.not_isNone, c_59]; rfl
           · rw [← hw s v q1 q2]
             exact if_pos rfl)
    rcases h3 with ⟨g1, g2, g3⟩ | ⟨s, b, g1, g2, g3, g4⟩
    · subst g2
      refine G.aload_n0 dX16_holds_32 ?_
      refine G.aload_n0 dX16_holds_33 ?_
      refine G.getfield (k := 1) fl_X16_13 (by assumption) rfl dX16_holds_34 ?_
      refine G.ifnonnullN dX16_holds_37 ?_
      refine G.lconst (v := 0) dX16_holds_40 (by decide) ?_
      refine G.goto (tgt := 52) dX16_holds_41 (by decide) ?_
      exact k52 D1 0 (some 1) hx1 hb1 (by rw [g1]; rfl) (fun s v q1 => by rw [g1] at q1; cases q1)
    · subst g2
      refine G.aload_n0 dX16_holds_32 ?_
      refine G.aload_n0 dX16_holds_33 ?_
      refine G.getfield (k := 1) fl_X16_13 (by assumption) rfl dX16_holds_34 ?_
      refine G.ifnonnull (tgt := 44) dX16_holds_37 (by decide) ?_
      refine G.aload_n0 dX16_holds_44 ?_
      refine G.getfield (k := 1) fl_X16_13 (by assumption) rfl dX16_holds_45 ?_
      refine G.aload_n1 dX16_holds_48 ?_
      refine G.sum (d := 5 + 60) rfl hB1 (e_smA 60 b s D1 g4 hB1 hE1 hb1) cu_X16_33_X12_X12_of cu_X16_33_X13_X13_of cu_X16_33_X14_X14_of cu_X16_33_X15_X15_of dX16_holds_49 (fun r1 H1 q1 => ?_) (Nat.le_of_ble_eq_true rfl) ⟨Nat.le_of_ble_eq_true rfl, Nat.le_of_ble_eq_true rfl⟩ ⟨Nat.le_of_ble_eq_true rfl, Nat.le_of_ble_eq_true rfl⟩ ⟨Nat.le_of_ble_eq_true rfl, Nat.le_of_ble_eq_true rfl⟩ ⟨Nat.le_of_ble_eq_true rfl, Nat.le_of_ble_eq_true rfl⟩
      obtain ⟨rfl, hv⟩ := q1
      exact k52 _ r1 (s e) (xX_s hx1 rfl) xs_1 (by rw [g1]; rfl) (fun s2 v q1 q2 => by rw [g1] at q1; cases q1; exact hv v q2)
  have hb0 : (xs D 15 1 (nI 0)).1 15 1 = bI false := xs_1
  have ha0 := xclause (D := xs D 15 1 (nI 0)) hB0 ha
  refine Ct.of [some (.ref a), some (.ref (L.1 15))] rfl (Nat.le_of_ble_eq_true rfl) (show plainName RX16 = true by decide +kernel) rfl ?_
  rcases h4 with ⟨g1, g2⟩ | ⟨t, b, g1, g2, g3⟩
  · subst g2
    refine G.aload_n1 dX16_holds_0 ?_
    refine G.iconst (v := nI 0) dX16_holds_1 (by decide) ?_
    refine G.xputi 15 1 fp_X16_21 dX16_holds_2 ?_ (hn := by first | rfl | exact bI_nar _) (hfit := by first | rfl | exact bI_fit _)
    refine G.aload_n0 dX16_holds_5 ?_
    refine G.getfield (k := 2) fl_X16_17 (by assumption) rfl dX16_holds_6 ?_
    refine G.ifnullN (tgt := 23) dX16_holds_9 (by decide) ?_
    refine G.aload_n1 dX16_holds_23 ?_
    refine G.xgeti 15 1 fl_X16_21 dX16_holds_24 ?_
    rw [hb0]
    refine G.ifb_eq (tgt := 32) dX16_holds_27 (by decide) (fun c_27 => ?_) (fun c_27 => ?_)
    · exact k32 _ hx0 hb0 (by rw [g1]; rfl)
    · exact absurd c_27 Bool.false_ne_true
  · subst g2
    refine G.aload_n1 dX16_holds_0 ?_
    refine G.iconst (v := nI 0) dX16_holds_1 (by decide) ?_
    refine G.xputi 15 1 fp_X16_21 dX16_holds_2 ?_ (hn := by first | rfl | exact bI_nar _) (hfit := by first | rfl | exact bI_fit _)
    refine G.aload_n0 dX16_holds_5 ?_
    refine G.getfield (k := 2) fl_X16_17 (by assumption) rfl dX16_holds_6 ?_
    refine G.ifnull dX16_holds_9 ?_
    refine G.aload_n0 dX16_holds_12 ?_
    refine G.getfield (k := 2) fl_X16_17 (by assumption) rfl dX16_holds_13 ?_
    refine G.aload_n1 dX16_holds_16 ?_
    refine G.test (d := 406 + 60) hB0 (e_tsA 60 b t _ g3 hB0 hE0 hb0) cu_X16_27_X18_X18_of cu_X16_27_X19_X19_of cu_X16_27_X20_X20_of dX16_holds_17 (fun r1 H1 q1 => ?_) (Nat.le_of_ble_eq_true rfl) ⟨Nat.le_of_ble_eq_true rfl, Nat.le_of_ble_eq_true rfl⟩ ⟨Nat.le_of_ble_eq_true rfl, Nat.le_of_ble_eq_true rfl⟩ ⟨Nat.le_of_ble_eq_true rfl, Nat.le_of_ble_eq_true rfl⟩
    obtain ⟨rb, rfl, rfl, hv⟩ := q1
    rw [xs_xs]
    refine G.ifb_eq (tgt := 30) dX16_holds_20 (by decide) (fun c_20 => ?_) (fun c_20 => ?_)
    · refine G.iconst (v := nI 0) dX16_holds_30 (by decide) ?_
      refine G.ireturn dX16_holds_31 ?_ (hn := by first | rfl | exact bI_nar _)
      have hq : zHolds c.2.2.2 e = false := by
        rw [g1]
        show (t e == some true) = false
        cases e1 : t e with
        | none => rfl
        | some v =>
          first
            | (rw [← hv v e1, c_20]; rfl)
            | (rw [e1] at c_27; exact absurd c_27 Bool.false_ne_true)
      have hz : zSays c e = false := by unfold zSays; rw [hq]; rfl
      rw [hz]
      exact ⟨_, rfl, _, rfl, xX_s xX.rf rfl, rfl, fun z => absurd z Bool.false_ne_true⟩
    · refine G.aload_n1 dX16_holds_23 ?_
      refine G.xgeti 15 1 fl_X16_21 dX16_holds_24 ?_
      rw [xs_1]
      refine G.ifb_eq (tgt := 32) dX16_holds_27 (by decide) (fun c_27 => ?_) (fun c_27 => ?_)
      · have hq : zHolds c.2.2.2 e = true := by
          rw [g1]
          show (t e == some true) = true
          cases e1 : t e with
          | none => rw [e1] at c_27; exact absurd c_27 (fun z => Bool.false_ne_true z.symm)
          | some v => rw [← hv v e1, c_20]; rfl
        have hn : (t e).isNone = false := c_27
        rw [hn]
        exact k32 _ (xX_s xX.rf rfl) xs_1 hq
      · refine G.iconst (v := nI 0) dX16_holds_30 (by decide) ?_
        refine G.ireturn dX16_holds_31 ?_ (hn := by first | rfl | exact bI_nar _)
        have hq : zHolds c.2.2.2 e = false := by
          rw [g1]
          show (t e == some true) = false
          cases e1 : t e with
          | none => rfl
          | some v =>
            first
              | (rw [← hv v e1, c_20]; rfl)
              | (rw [e1] at c_27; exact absurd c_27 Bool.false_ne_true)
        have hz : zSays c e = false := by unfold zSays; rw [hq]; rfl
        rw [hz]
        exact ⟨_, rfl, _, rfl, xX_s xX.rf rfl, rfl, fun z => absurd z Bool.false_ne_true⟩
end Texts
