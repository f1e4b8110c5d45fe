/-! LITSTRANGERS TELLS: texts of laws -/
def zHas (cs : List Cl) (e : En) : Bool := cs.any (fun c => decide (c.1 = 5) && zSays c e)
theorem zRaw_cons {c : Cl} {cs : List Cl} {head : Nat} {e : En} {w : Int64} : zRaw (c :: cs) head e w = zRaw cs head e (if c.1 = head ∧ zHolds c.2.2.2 e = true then (match zTold c.2.1 e with
  | none => w
  | some v => v) else w) := rfl
section Texts
variable {E : JE} {L : XL} {ph : HP} {e : En}
theorem c_Text_tells {D : XD} {a : Nat} {cs : List Cl} {head : Nat} (hh : head < 4) {w : Int64} (hB : xdis L D ph) (hE : envA D e) (hT : rText (L.1 0) ph a cs) : Ct E fX4_tells [.ref a, .int (nI head), .ref (L.1 15), .long w] (xov L D ph) (pJ fun r h' => ∃ D', h' = xov L D' ph ∧ xX p15 D D' ∧ r = zRaw cs (head + 1) e w) jNo := by
  obtain ⟨b, n, g, as, ha, hb, hn, hlen, hg, hall⟩ := hT
  have loop : ∀ (as' : List Nat) (cs' : List Cl) (i : Nat) (D2 : XD) (its : Int64), i + as'.length = n → (∀ j (h : j < as'.length), g (i + j) = some as'[j]) → rAl (rCl (L.1 0) ph) as' cs' → xX p15 D D2 → zRaw cs' (head + 1) e its = zRaw cs (head + 1) e w → G E fX4_tells (jFin E fX4_tells (pJ fun r h' => ∃ D', h' = xov L D' ph ∧ xX p15 D D' ∧ r = zRaw cs (head + 1) e w) jNo) 6 [some (.ref a), some (.int (nI head)), some (.ref (L.1 15)), some (.long w), none, some (.long its), none, some (.int (nI i))] [] (xov L D2 ph) 0 0 := by
    intro as'
    induction as' with
    | nil =>
      intro cs' i D2 its hi hg' hr hx hz
      have hB2 := xdis_X hB hx
      have ha2 := xbase (D := D2) hB2 ha rfl
      have hb2 := xbase (D := D2) hB2 hb rfl
      cases cs' with
      | cons c cs' => exact hr.elim
      | nil =>
        rw [List.length_nil] at hi
        refine G.iload7 dX4_tells_6 ?_
        refine G.aload_n0 dX4_tells_8 ?_
        refine G.getfield (k := 0) fl_X4_7 (by assumption) rfl dX4_tells_9 ?_
        refine G.arraylength hb2 dX4_tells_12 rfl ?_
        refine G.icmp_ge (tgt := 62) dX4_tells_13 (by decide) (fun c_13 => ?_) (fun c_13 => ?_)
        · refine G.lload5 dX4_tells_62 ?_
          refine G.lreturn dX4_tells_64 ?_
          exact ⟨_, rfl, D2, rfl, hx, hz⟩
        · exact absurd (nI_leI (by omega) (by omega) |>.mpr (by omega)) c_13
    | cons a' as' ihl =>
      intro cs' i D2 its hi hg' hr hx hz
      rw [List.length_cons] at hi
      cases cs' with
      | nil => exact hr.elim
      | cons c cs' =>
        obtain ⟨hr1, hr2⟩ := hr
        have hg0 : g i = some a' := hg' 0 (by rw [List.length_cons]; omega)
        have hgS : ∀ j (h : j < as'.length), g (i + 1 + j) = some as'[j] := by
          intro j hj
          have := hg' (j + 1) (by rw [List.length_cons]; omega)
          rw [show i + (j + 1) = i + 1 + j from by omega] at this
          exact this
        obtain ⟨hd, sv, tv, told, ha', q1, q2, q3, q4⟩ := id hr1
        have hB2 := xdis_X hB hx
        have ha2 := xbase (D := D2) hB2 ha rfl
        have hb2 := xbase (D := D2) hB2 hb rfl
        have hc2 := xclause (D := D2) hB2 ha'
        rw [zRaw_cons] at hz
        have k56 : ∀ (D3 : XD) (its' : Int64), xX p15 D D3 → zRaw cs' (head + 1) e its' = zRaw cs (head + 1) e w → G E fX4_tells (jFin E fX4_tells (pJ fun r h' => ∃ D', h' = xov L D' ph ∧ xX p15 D D' ∧ r = zRaw cs (head + 1) e w) jNo) 56 [some (.ref a), some (.int (nI head)), some (.ref (L.1 15)), some (.long w), none, some (.long its'), none, some (.int (nI i))] [] (xov L D3 ph) 0 0 := by
          intro D3 its' hx3 hz3
          refine G.iinc7 dX4_tells_56 ?_
          try rw [show ∀ a : Nat, nI a + Int32.ofInt 1 = nI (a + 1) from fun a => nI_add a 1]
          refine G.goto (tgt := 6) dX4_tells_59 (by decide) ?_
          exact ihl cs' (i + 1) D3 its' (by omega) hgS hr2 hx3 hz3
        clear ihl
        refine G.iload7 dX4_tells_6 ?_
        refine G.aload_n0 dX4_tells_8 ?_
        refine G.getfield (k := 0) fl_X4_7 (by assumption) rfl dX4_tells_9 ?_
        refine G.arraylength hb2 dX4_tells_12 rfl ?_
        refine G.icmp_ge (tgt := 62) dX4_tells_13 (by decide) (fun c_13 => ?_) (fun c_13 => ?_)
        · exact absurd ((nI_leI (by omega) (by omega)).mp c_13) (by omega)
        · refine G.aload_n0 dX4_tells_16 ?_
          refine G.getfield (k := 0) fl_X4_7 (by assumption) rfl dX4_tells_17 ?_
          refine G.iload7 dX4_tells_20 ?_
          refine G.aaload i hb2 dX4_tells_22 rfl (by omega) (by omega) ?_
          rw [hg0]
          refine G.getfield (k := 0) fl_X4_13 (by assumption) rfl dX4_tells_23 ?_
          refine G.iload_n1 dX4_tells_26 ?_
          refine G.icmp_ne (tgt := 56) dX4_tells_27 (by decide) (fun c_27 => ?_) (fun c_27 => ?_)
          · have n_27 : ¬ hd = head := fun z => c_27 (congrArg nI z)
            first
            | (rw [if_neg (fun z => n_27 (by omega))] at hz
               exact k56 _ _ hx hz)
            | (have hno : (if c.1 = head + 1 ∧ zHolds c.2.2.2 e = true then (match zTold c.2.1 e with
                 | none => its
                 | some v => v) else its) = its := by
                 unfold zSays at c_41
                 split
                 · rename_i z
                   rw [z.2, Bool.true_and] at c_41
                   cases h9 : zTold c.2.1 e with
                   | none => rfl
                   | some v => rw [h9] at c_41; cases c_41
                 · rfl
               rw [hno] at hz
               exact k56 _ _ hx3' hz)
            | (have hyes : (if c.1 = head + 1 ∧ zHolds c.2.2.2 e = true then (match zTold c.2.1 e with
                 | none => its
                 | some v => v) else its) = D3.2.2.2.2.2 a' := by
                 have c41 := c_41
                 unfold zSays at c41
                 rw [Bool.and_eq_true] at c41
                 rw [if_pos ⟨by omega, c41.1⟩]
                 rcases q3 with ⟨y1, y2, y3⟩ | ⟨s, b, y1, y2, y3, y4⟩
                 · omega
                 · cases h9 : s e with
                   | none => rw [y1] at c41; rw [show zTold (some s) e = none from h9] at c41; exact absurd c41.2 Bool.false_ne_true
                   | some v =>
                     rw [y1, show zTold (some s) e = some v from h9]
                     exact (hv c_41 s v y1 h9).symm
               rw [hyes] at hz
               exact k56 _ _ hx3' hz)
          · have n_27 : hd = head := (nI_inj (a := hd) (b := head) (by omega) (by omega)).mp c_27
            refine G.aload_n0 dX4_tells_30 ?_
            refine G.getfield (k := 0) fl_X4_7 (by assumption) rfl dX4_tells_31 ?_
            refine G.iload7 dX4_tells_34 ?_
            refine G.aaload i hb2 dX4_tells_36 rfl (by omega) (by omega) ?_
            rw [hg0]
            refine G.aload_n2 dX4_tells_37 ?_
            refine G.callV (f' := fX16_holds) q1270 ck_X16_holds (c_holds (D := D2) hB2 (envA_X hE hx) hr1) (by assumption) dX4_tells_38 jno (pI.k fun r_38 H_38 h_38 => ?_)
            obtain ⟨D3, rfl, hx3, rfl, hv⟩ := h_38
            have hx3' : xX p15 D D3 := hx.tr hx3 (fun _ z => z)
            have hB3 := xdis_X hB hx3'
            have ha3 := xbase (D := D3) hB3 ha rfl
            have hb3 := xbase (D := D3) hB3 hb rfl
            have hc3 := xclause (D := D3) hB3 ha'
            refine G.ifb_eq (tgt := 56) dX4_tells_41 (by decide) (fun c_41 => ?_) (fun c_41 => ?_)
            · first
              | (rw [if_neg (fun z => n_27 (by omega))] at hz
                 exact k56 _ _ hx hz)
              | (have hno : (if c.1 = head + 1 ∧ zHolds c.2.2.2 e = true then (match zTold c.2.1 e with
                   | none => its
                   | some v => v) else its) = its := by
                   unfold zSays at c_41
                   split
                   · rename_i z
                     rw [z.2, Bool.true_and] at c_41
                     cases h9 : zTold c.2.1 e with
                     | none => rfl
                     | some v => rw [h9] at c_41; cases c_41
                   · rfl
                 rw [hno] at hz
                 exact k56 _ _ hx3' hz)
              | (have hyes : (if c.1 = head + 1 ∧ zHolds c.2.2.2 e = true then (match zTold c.2.1 e with
                   | none => its
                   | some v => v) else its) = D3.2.2.2.2.2 a' := by
                   have c41 := c_41
                   unfold zSays at c41
                   rw [Bool.and_eq_true] at c41
                   rw [if_pos ⟨by omega, c41.1⟩]
                   rcases q3 with ⟨y1, y2, y3⟩ | ⟨s, b, y1, y2, y3, y4⟩
                   · omega
                   · cases h9 : s e with
                     | none => rw [y1] at c41; rw [show zTold (some s) e = none from h9] at c41; exact absurd c41.2 Bool.false_ne_true
                     | some v =>
                       rw [y1, show zTold (some s) e = some v from h9]
                       exact (hv c_41 s v y1 h9).symm
                 rw [hyes] at hz
                 exact k56 _ _ hx3' hz)
            · refine G.aload_n0 dX4_tells_44 ?_
              refine G.getfield (k := 0) fl_X4_7 (by assumption) rfl dX4_tells_45 ?_
              refine G.iload7 dX4_tells_48 ?_
              refine G.aaload i hb3 dX4_tells_50 rfl (by omega) (by omega) ?_
              rw [hg0]
              refine G.getfield (k := 3) fl_X4_23 (by assumption) rfl dX4_tells_51 ?_
              refine G.lstore5 dX4_tells_54 ?_
              first
              | (rw [if_neg (fun z => n_27 (by omega))] at hz
                 exact k56 _ _ hx hz)
              | (have hno : (if c.1 = head + 1 ∧ zHolds c.2.2.2 e = true then (match zTold c.2.1 e with
                   | none => its
                   | some v => v) else its) = its := by
                   unfold zSays at c_41
                   split
                   · rename_i z
                     rw [z.2, Bool.true_and] at c_41
                     cases h9 : zTold c.2.1 e with
                     | none => rfl
                     | some v => rw [h9] at c_41; cases c_41
                   · rfl
                 rw [hno] at hz
                 exact k56 _ _ hx3' hz)
              | (have hyes : (if c.1 = head + 1 ∧ zHolds c.2.2.2 e = true then (match zTold c.2.1 e with
                   | none => its
                   | some v => v) else its) = D3.2.2.2.2.2 a' := by
                   have c41 := c_41
                   unfold zSays at c41
                   rw [Bool.and_eq_true] at c41
                   rw [if_pos ⟨by omega, c41.1⟩]
                   rcases q3 with ⟨y1, y2, y3⟩ | ⟨s, b, y1, y2, y3, y4⟩
                   · omega
                   · cases h9 : s e with
                     | none => rw [y1] at c41; rw [show zTold (some s) e = none from h9] at c41; exact absurd c41.2 Bool.false_ne_true
                     | some v =>
                       rw [y1, show zTold (some s) e = some v from h9]
                       exact (hv c_41 s v y1 h9).symm
                 rw [hyes] at hz
                 exact k56 _ _ hx3' hz)
  refine Ct.of [some (.ref a), some (.int (nI head)), some (.ref (L.1 15)), some (.long w), none, none, none, none] rfl (Nat.le_of_ble_eq_true rfl) (show plainName RX4 = true by decide +kernel) rfl ?_
  refine G.lload_n3 dX4_tells_0 ?_
  refine G.lstore5 dX4_tells_1 ?_
  refine G.iconst (v := nI 0) dX4_tells_3 (by decide) ?_
  refine G.istore7 dX4_tells_4 ?_
  exact loop as cs 0 D w (by omega) (fun j hj => by rw [Nat.zero_add]; exact hg j hj) hall xX.rf rfl
theorem c_Text_has {D : XD} {a : Nat} {cs : List Cl} (hB : xdis L D ph) (hE : envA D e) (hT : rText (L.1 0) ph a cs) : Ct E fX4_has [.ref a, .int (nI 4), .ref (L.1 15)] (xov L D ph) (pI fun r h' => ∃ D', h' = xov L D' ph ∧ xX p15 D D' ∧ r = bI (zHas cs e)) jNo := by
  obtain ⟨b, n, g, as, ha, hb, hn, hlen, hg, hall⟩ := hT
  have loop : ∀ (as' : List Nat) (cs' : List Cl) (i : Nat) (D2 : XD), i + as'.length = n → (∀ j (h : j < as'.length), g (i + j) = some as'[j]) → rAl (rCl (L.1 0) ph) as' cs' → xX p15 D D2 → zHas cs' e = zHas cs e → G E fX4_has (jFin E fX4_has (pI fun r h' => ∃ D', h' = xov L D' ph ∧ xX p15 D D' ∧ r = bI (zHas cs e)) jNo) 2 [some (.ref a), some (.int (nI 4)), some (.ref (L.1 15)), some (.int (nI i))] [] (xov L D2 ph) 0 0 := by
    intro as'
    induction as' with
    | nil =>
      intro cs' i D2 hi hg' hr hx hz
      have hB2 := xdis_X hB hx
      have ha2 := xbase (D := D2) hB2 ha rfl
      have hb2 := xbase (D := D2) hB2 hb rfl
      cases cs' with
      | cons c cs' => exact hr.elim
      | nil =>
        rw [List.length_nil] at hi
        refine G.iload_n3 dX4_has_2 ?_
        refine G.aload_n0 dX4_has_3 ?_
        refine G.getfield (k := 0) fl_X4_7 (by assumption) rfl dX4_has_4 ?_
        refine G.arraylength hb2 dX4_has_7 rfl ?_
        refine G.icmp_ge (tgt := 45) dX4_has_8 (by decide) (fun c_8 => ?_) (fun c_8 => ?_)
        · refine G.iconst (v := nI 0) dX4_has_45 (by decide) ?_
          refine G.ireturn dX4_has_46 ?_ (hn := by first | rfl | exact bI_nar _)
          exact ⟨_, rfl, D2, rfl, hx, congrArg bI hz⟩
        · exact absurd (nI_leI (by omega) (by omega) |>.mpr (by omega)) c_8
    | cons a' as' ihl =>
      intro cs' i D2 hi hg' hr hx hz
      rw [List.length_cons] at hi
      cases cs' with
      | nil => exact hr.elim
      | cons c cs' =>
        obtain ⟨hr1, hr2⟩ := hr
        have hg0 : g i = some a' := hg' 0 (by rw [List.length_cons]; omega)
        have hgS : ∀ j (h : j < as'.length), g (i + 1 + j) = some as'[j] := by
          intro j hj
          have := hg' (j + 1) (by rw [List.length_cons]; omega)
          rw [show i + (j + 1) = i + 1 + j from by omega] at this
          exact this
        obtain ⟨hd, sv, tv, told, ha', q1, q2, q3, q4⟩ := id hr1
        have hB2 := xdis_X hB hx
        have ha2 := xbase (D := D2) hB2 ha rfl
        have hb2 := xbase (D := D2) hB2 hb rfl
        have hc2 := xclause (D := D2) hB2 ha'
        rw [show zHas (c :: cs') e = ((decide (c.1 = 5) && zSays c e) || zHas cs' e) from rfl] at hz
        refine G.iload_n3 dX4_has_2 ?_
        refine G.aload_n0 dX4_has_3 ?_
        refine G.getfield (k := 0) fl_X4_7 (by assumption) rfl dX4_has_4 ?_
        refine G.arraylength hb2 dX4_has_7 rfl ?_
        refine G.icmp_ge (tgt := 45) dX4_has_8 (by decide) (fun c_8 => ?_) (fun c_8 => ?_)
        · exact absurd ((nI_leI (by omega) (by omega)).mp c_8) (by omega)
        · refine G.aload_n0 dX4_has_11 ?_
          refine G.getfield (k := 0) fl_X4_7 (by assumption) rfl dX4_has_12 ?_
          refine G.iload_n3 dX4_has_15 ?_
          refine G.aaload i hb2 dX4_has_16 rfl (by omega) (by omega) ?_
          rw [hg0]
          refine G.getfield (k := 0) fl_X4_13 (by assumption) rfl dX4_has_17 ?_
          refine G.iload_n1 dX4_has_20 ?_
          refine G.icmp_ne (tgt := 39) dX4_has_21 (by decide) (fun c_21 => ?_) (fun c_21 => ?_)
          · have n_21 : ¬ hd = 4 := fun z => c_21 (congrArg nI z)
            refine G.iinc3 dX4_has_39 ?_
            try rw [show ∀ a : Nat, nI a + Int32.ofInt 1 = nI (a + 1) from fun a => nI_add a 1]
            refine G.goto (tgt := 2) dX4_has_42 (by decide) ?_
            first
            | (rw [decide_eq_false (by omega), Bool.false_and, Bool.false_or] at hz
               exact ihl cs' (i + 1) D2 (by omega) hgS hr2 hx hz)
            | (rw [c_34, Bool.and_false, Bool.false_or] at hz
               exact ihl cs' (i + 1) D3 (by omega) hgS hr2 hx3' hz)
          · have n_21 : hd = 4 := (nI_inj (a := hd) (b := 4) (by omega) (by omega)).mp c_21
            refine G.aload_n0 dX4_has_24 ?_
            refine G.getfield (k := 0) fl_X4_7 (by assumption) rfl dX4_has_25 ?_
            refine G.iload_n3 dX4_has_28 ?_
            refine G.aaload i hb2 dX4_has_29 rfl (by omega) (by omega) ?_
            rw [hg0]
            refine G.aload_n2 dX4_has_30 ?_
            refine G.callV (f' := fX16_holds) q1270 ck_X16_holds (c_holds (D := D2) hB2 (envA_X hE hx) hr1) (by assumption) dX4_has_31 jno (pI.k fun r_31 H_31 h_31 => ?_)
            obtain ⟨D3, rfl, hx3, rfl, hv⟩ := h_31
            have hx3' : xX p15 D D3 := hx.tr hx3 (fun _ z => z)
            refine G.ifb_eq (tgt := 39) dX4_has_34 (by decide) (fun c_34 => ?_) (fun c_34 => ?_)
            · refine G.iinc3 dX4_has_39 ?_
              try rw [show ∀ a : Nat, nI a + Int32.ofInt 1 = nI (a + 1) from fun a => nI_add a 1]
              refine G.goto (tgt := 2) dX4_has_42 (by decide) ?_
              first
              | (rw [decide_eq_false (by omega), Bool.false_and, Bool.false_or] at hz
                 exact ihl cs' (i + 1) D2 (by omega) hgS hr2 hx hz)
              | (rw [c_34, Bool.and_false, Bool.false_or] at hz
                 exact ihl cs' (i + 1) D3 (by omega) hgS hr2 hx3' hz)
            · refine G.iconst (v := nI 1) dX4_has_37 (by decide) ?_
              refine G.ireturn dX4_has_38 ?_ (hn := by first | rfl | exact bI_nar _)
              refine ⟨_, rfl, D3, rfl, hx3', ?_⟩
              rw [← hz, c_34, decide_eq_true (by omega)]
              rfl
  refine Ct.of [some (.ref a), some (.int (nI 4)), some (.ref (L.1 15)), none] rfl (Nat.le_of_ble_eq_true rfl) (show plainName RX4 = true by decide +kernel) rfl ?_
  refine G.iconst (v := nI 0) dX4_has_0 (by decide) ?_
  refine G.istore_n3 dX4_has_1 ?_
  exact loop as cs 0 D (by omega) (fun j hj => by rw [Nat.zero_add]; exact hg j hj) hall xX.rf rfl
end Texts
