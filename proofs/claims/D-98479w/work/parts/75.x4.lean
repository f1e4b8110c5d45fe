/-! LITSTRANGERS TELLS: sums, tests -/
theorem ciNe {ph : HP} {a ci cj : Nat} {v w : List Value} (h1 : ph a = some (.inr (ci, v))) (h2 : ph a = some (.inr (cj, w))) : ci = cj ∧ v = w := by
  rw [h1] at h2
  cases h2
  exact ⟨rfl, rfl⟩
theorem zBin_ev {k : Nat} (hk : oChar k) {s1 s2 : Sm} {e : En} {p q : Int64} (h1 : s1 e = some p) (h2 : s2 e = some q) : zBin (nI (100 + k)) s1 s2 e = if nI k = nI 47 then (if q = 0 then none else some (p / q)) else if nI k = nI 37 then (if q = 0 then none else some (p - p / q * q)) else if nI k = nI 43 then zWithin (p + q) else if nI k = nI 45 then zWithin (p - q) else zWithin (p * q) := by
  have key : ∀ j, j < 100 → (nI (100 + k) = nI (100 + j) ↔ nI k = nI j) := by
    intro j hj
    have hk2 : k < 100 := by unfold oChar at hk; omega
    rw [nI_inj (by omega) (by omega), nI_inj (by omega) (by omega)]
    omega
  unfold zBin
  rw [h1, h2]
  dsimp only
  simp only [show (147 : Nat) = 100 + 47 from rfl, show (137 : Nat) = 100 + 37 from rfl, show (143 : Nat) = 100 + 43 from rfl, show (145 : Nat) = 100 + 45 from rfl, key 47 (by omega), key 37 (by omega), key 43 (by omega), key 45 (by omega)]
theorem zBj_n1 {op : Int32} {s1 s2 : Sm} {e : En} (h1 : s1 e = none) : zBin op s1 s2 e = none := by
  unfold zBin
  rw [h1]
theorem zBj_n2 {op : Int32} {s1 s2 : Sm} {e : En} (h2 : s2 e = none) : zBin op s1 s2 e = none := by
  unfold zBin
  cases s1 e with
  | none => rfl
  | some v => dsimp only; rw [h2]
theorem zCmp_ev {k : Nat} (hk : cChar k) {s1 s2 : Sm} {e : En} {p q : Int64} (h1 : s1 e = some p) (h2 : s2 e = some q) : zCmp (nI (100 + k)) s1 s2 e = some (if nI k = nI 60 then decide (p < q) else if nI k = nI 62 then decide (q < p) else decide (p = q)) := by
  have key : ∀ j, j < 100 → (nI (100 + k) = nI (100 + j) ↔ nI k = nI j) := by
    intro j hj
    have hk2 : k < 100 := by unfold cChar at hk; omega
    rw [nI_inj (by omega) (by omega), nI_inj (by omega) (by omega)]
    omega
  unfold zCmp
  rw [h1, h2]
  dsimp only
  simp only [show (160 : Nat) = 100 + 60 from rfl, show (162 : Nat) = 100 + 62 from rfl, key 60 (by omega), key 62 (by omega)]
theorem zCj_n1 {op : Int32} {s1 s2 : Sm} {e : En} (h1 : s1 e = none) : zCmp op s1 s2 e = none := by
  unfold zCmp
  rw [h1]
theorem zCj_n2 {op : Int32} {s1 s2 : Sm} {e : En} (h2 : s2 e = none) : zCmp op s1 s2 e = none := by
  unfold zCmp
  cases s1 e with
  | none => rfl
  | some v => dsimp only; rw [h2]
theorem zWithin_t {v : Int64} (h : big < v ∨ v < -big) : zWithin v = none := if_pos h
theorem zWithin_f {v : Int64} (h : ¬ (big < v ∨ v < -big)) : zWithin v = some v := if_neg h
/-- what is asked of lies in the numbers; of orders, persons too -/
def envA (D : XD) (e : En) : Prop := ∀ i, i < 10 → D.2.2.1 16 i = e.1 (wPm false i)
def xW (D : XD) (p : Nat) : Int32 := if D.2.1 7 p = nI 3 then nI 0 else nI 2 - D.2.1 9 p
def envO (n : Nat) (D : XD) (e : En) : Prop := (∀ i, i < 5 → D.2.2.1 18 i = e.1 i) ∧ n ≤ 10 ∧ D.1 4 2 = nI n ∧ (∀ p, p < 10 → e.2.1 p = if p < n then (xW D p).toInt64 else -1) ∧ ∀ p, p < 10 → e.2.2 p = if p < n then (if D.2.1 7 p = nI 2 then 1 else 0) else -1
section Worth
variable {E : JE} {L : XL} {D : XD} {ph : HP}
theorem c_worth {p : Nat} (hp : p < 10) : XC E fX2_worth 6 L D ph [.int (nI p)] (wI fun r D' => r = xW D p ∧ D' = D) := by
  refine Ct.of [some (.ref (L.1 6)), some (.int (nI p))] rfl (Nat.le_of_ble_eq_true rfl) (show plainName RX2 = true by decide +kernel) rfl ?_
  refine G.aload_n0 dX2_worth_0 ?_
  refine G.xgetf 6 0 7 fl_X2_9 dX2_worth_1 ?_
  refine G.iload_n1 dX2_worth_4 ?_
  refine G.xiald (n := 10) 7 p dX2_worth_5 rfl (by omega) ?_
  refine G.iconst (v := nI 3) dX2_worth_6 (by decide) ?_
  refine G.icmp_ne (tgt := 14) dX2_worth_7 (by decide) (fun c_7 => ?_) (fun c_7 => ?_)
  · refine G.iconst (v := nI 2) dX2_worth_14 (by decide) ?_
    refine G.aload_n0 dX2_worth_15 ?_
    refine G.xgetf 6 2 9 fl_X2_18 dX2_worth_16 ?_
    refine G.iload_n1 dX2_worth_19 ?_
    refine G.xiald (n := 10) 9 p dX2_worth_20 rfl (by omega) ?_
    refine G.isub dX2_worth_21 ?_
    refine G.ireturn dX2_worth_22 ?_
    first
    | exact ⟨_, rfl, _, rfl, (if_pos c_7).symm, rfl⟩
    | exact ⟨_, rfl, _, rfl, (if_pos (Classical.not_not.mp c_7)).symm, rfl⟩
    | exact ⟨_, rfl, _, rfl, (if_neg c_7).symm, rfl⟩
  · refine G.iconst (v := nI 0) dX2_worth_10 (by decide) ?_
    refine G.goto (tgt := 22) dX2_worth_11 (by decide) ?_
    refine G.ireturn dX2_worth_22 ?_
    first
    | exact ⟨_, rfl, _, rfl, (if_pos c_7).symm, rfl⟩
    | exact ⟨_, rfl, _, rfl, (if_pos (Classical.not_not.mp c_7)).symm, rfl⟩
    | exact ⟨_, rfl, _, rfl, (if_neg c_7).symm, rfl⟩
end Worth
section TellA
variable {E : JE} {L : XL} {ph : HP} {e : En} {n : Nat}
theorem c_withinA {D : XD} {v : Int64} (h0 : D.1 15 1 = nI 0) : XC E fX3_within 15 L D ph [.long v] (wJ fun r D' => D' = xs D 15 1 (bI (zWithin v).isNone) ∧ ∀ w, zWithin v = some w → r = w) := by
  refine Ct.of [some (.ref (L.1 15)), some (.long v), none] rfl (Nat.le_of_ble_eq_true rfl) (show plainName RX3 = true by decide +kernel) rfl ?_
  refine G.aload_n0 dX3_within_0 ?_
  refine G.aload_n0 dX3_within_1 ?_
  refine G.xgeti 15 1 fl_X3_13 dX3_within_2 ?_
  rw [show D.1 15 1 = bI false from h0]
  refine G.ifb_ne (tgt := 24) dX3_within_5 (by decide) (fun c_5 => ?_) (fun c_5 => ?_)
  · exact absurd c_5 Bool.false_ne_true
  · refine G.lload_n1 dX3_within_8 ?_
    refine G.ldc2 q1302 dX3_within_9 ?_
    refine G.lcmp dX3_within_12 ?_
    refine G.if_gt (tgt := 24) dX3_within_13 (by decide) (fun c_13 => ?_) (fun c_13 => ?_)
    · have hz : zWithin v = none := zWithin_t (Or.inl (lg_gt.mp c_13))
      rw [hz]
      refine G.iconst (v := nI 1) dX3_within_24 (by decide) ?_
      refine G.goto (tgt := 29) dX3_within_25 (by decide) ?_
      refine G.xputi 15 1 fp_X3_13 dX3_within_29 ?_ (hn := by first | rfl | exact bI_nar _) (hfit := by first | rfl | exact bI_fit _)
      refine G.aload_n0 dX3_within_32 ?_
      refine G.xgeti 15 1 fl_X3_13 dX3_within_33 ?_
      first
      | rw [show (xs D 15 1 (nI 1)).1 15 1 = bI true from xs_1]
      | rw [show (xs D 15 1 (nI 0)).1 15 1 = bI false from xs_1]
      refine G.ifb_eq (tgt := 43) dX3_within_36 (by decide) (fun c_36 => ?_) (fun c_36 => ?_)
      · refine G.lload_n1 dX3_within_43 ?_
        refine G.lreturn dX3_within_44 ?_
        first
        | exact absurd c_36 Bool.false_ne_true
        | exact absurd c_36 (fun z => Bool.false_ne_true z.symm)
        | exact ⟨_, rfl, _, rfl, rfl, fun w hw => by cases hw <;> rfl⟩
      · refine G.lconst (v := 0) dX3_within_39 (by decide) ?_
        refine G.goto (tgt := 44) dX3_within_40 (by decide) ?_
        refine G.lreturn dX3_within_44 ?_
        first
        | exact absurd c_36 Bool.false_ne_true
        | exact absurd c_36 (fun z => Bool.false_ne_true z.symm)
        | exact ⟨_, rfl, _, rfl, rfl, fun w hw => by cases hw <;> rfl⟩
    · refine G.lload_n1 dX3_within_16 ?_
      refine G.ldc2 q1303 dX3_within_17 ?_
      refine G.lcmp dX3_within_20 ?_
      refine G.if_ge (tgt := 28) dX3_within_21 (by decide) (fun c_21 => ?_) (fun c_21 => ?_)
      · have hz : zWithin v = some v := zWithin_f (fun z => z.elim (fun y => c_13 (lg_gt.mpr y)) (fun y => absurd (lg_ge.mp c_21) (Int64.not_le.mpr y)))
        rw [hz]
        refine G.iconst (v := nI 0) dX3_within_28 (by decide) ?_
        refine G.xputi 15 1 fp_X3_13 dX3_within_29 ?_ (hn := by first | rfl | exact bI_nar _) (hfit := by first | rfl | exact bI_fit _)
        refine G.aload_n0 dX3_within_32 ?_
        refine G.xgeti 15 1 fl_X3_13 dX3_within_33 ?_
        first
        | rw [show (xs D 15 1 (nI 1)).1 15 1 = bI true from xs_1]
        | rw [show (xs D 15 1 (nI 0)).1 15 1 = bI false from xs_1]
        refine G.ifb_eq (tgt := 43) dX3_within_36 (by decide) (fun c_36 => ?_) (fun c_36 => ?_)
        · refine G.lload_n1 dX3_within_43 ?_
          refine G.lreturn dX3_within_44 ?_
          first
          | exact absurd c_36 Bool.false_ne_true
          | exact absurd c_36 (fun z => Bool.false_ne_true z.symm)
          | exact ⟨_, rfl, _, rfl, rfl, fun w hw => by cases hw <;> rfl⟩
        · refine G.lconst (v := 0) dX3_within_39 (by decide) ?_
          refine G.goto (tgt := 44) dX3_within_40 (by decide) ?_
          refine G.lreturn dX3_within_44 ?_
          first
          | exact absurd c_36 Bool.false_ne_true
          | exact absurd c_36 (fun z => Bool.false_ne_true z.symm)
          | exact ⟨_, rfl, _, rfl, rfl, fun w hw => by cases hw <;> rfl⟩
      · have hz : zWithin v = none := zWithin_t (Or.inr (Int64.not_le.mp (fun y => c_21 (lg_ge.mpr y))))
        rw [hz]
        refine G.iconst (v := nI 1) dX3_within_24 (by decide) ?_
        refine G.goto (tgt := 29) dX3_within_25 (by decide) ?_
        refine G.xputi 15 1 fp_X3_13 dX3_within_29 ?_ (hn := by first | rfl | exact bI_nar _) (hfit := by first | rfl | exact bI_fit _)
        refine G.aload_n0 dX3_within_32 ?_
        refine G.xgeti 15 1 fl_X3_13 dX3_within_33 ?_
        first
        | rw [show (xs D 15 1 (nI 1)).1 15 1 = bI true from xs_1]
        | rw [show (xs D 15 1 (nI 0)).1 15 1 = bI false from xs_1]
        refine G.ifb_eq (tgt := 43) dX3_within_36 (by decide) (fun c_36 => ?_) (fun c_36 => ?_)
        · refine G.lload_n1 dX3_within_43 ?_
          refine G.lreturn dX3_within_44 ?_
          first
          | exact absurd c_36 Bool.false_ne_true
          | exact absurd c_36 (fun z => Bool.false_ne_true z.symm)
          | exact ⟨_, rfl, _, rfl, rfl, fun w hw => by cases hw <;> rfl⟩
        · refine G.lconst (v := 0) dX3_within_39 (by decide) ?_
          refine G.goto (tgt := 44) dX3_within_40 (by decide) ?_
          refine G.lreturn dX3_within_44 ?_
          first
          | exact absurd c_36 Bool.false_ne_true
          | exact absurd c_36 (fun z => Bool.false_ne_true z.symm)
          | exact ⟨_, rfl, _, rfl, rfl, fun w hw => by cases hw <;> rfl⟩
/-- sums, however high -/
theorem e_smA : ∀ (f a : Nat) (s : Sm) (D : XD), rSm (L.1 0) false ph f a s → xdis L D ph → envA D e → D.1 15 1 = nI 0 → smC E L D ph 15 (5 + f) a (fun r h' => h' = xov L (xs D 15 1 (bI (s e).isNone)) ph ∧ ∀ v, s e = some v → r = v) := by
  intro f
  induction f with
  | zero => intro a s D h; exact h.elim
  | succ f ih =>
    intro a s D h hB hE h0
    have hid : xs D 15 1 (bI false) = D := xs_id h0
    rw [rSm] at h
    rcases h with ⟨v, ha, rfl⟩ | ⟨w, hw, ha, rfl⟩ | ⟨ho, b, p, hp, ha, rfl⟩ | ⟨b, c, k, s1, s2, ha, hk, hs1, hs2, rfl⟩
    · refine ⟨fun x hx => ?_, fun x hx => absurd (ciNe ha hx).1 (by decide), fun x hx => absurd (ciNe ha hx).1 (by decide), fun x hx => absurd (ciNe ha hx).1 (by decide), 12, _, ha, Or.inl rfl⟩
      have hx2 := xbase (D := D) hB ha rfl
      refine Ct.of [some (.ref a), some (.ref (L.1 15))] rfl (Nat.le_of_ble_eq_true rfl) (show plainName RX12 = true by decide +kernel) rfl ?_
      refine G.aload_n0 dX12_of_0 ?_
      refine G.getfield (k := 0) fl_X12_7 (by assumption) rfl dX12_of_1 ?_
      refine G.i2l dX12_of_4 rfl ?_
      refine G.lreturn dX12_of_5 ?_
      exact ⟨_, rfl, (by rw [show ((some v.toInt64 : Option Int64)).isNone = false from rfl, hid]), fun w hw => by cases hw <;> rfl⟩
    · refine ⟨fun x hx => absurd (ciNe ha hx).1 (by decide), fun x hx => ?_, fun x hx => absurd (ciNe ha hx).1 (by decide), fun x hx => absurd (ciNe ha hx).1 (by decide), 13, _, ha, Or.inr (Or.inl rfl)⟩
      have hx2 := xbase (D := D) hB ha rfl
      have hww : w < 10 := hw
      refine Ct.of [some (.ref a), some (.ref (L.1 15))] rfl (Nat.le_of_ble_eq_true rfl) (show plainName RX13 = true by decide +kernel) rfl ?_
      refine G.aload_n1 dX13_of_0 ?_
      refine G.xgetf 15 0 16 fl_X13_13 dX13_of_1 ?_
      refine G.aload_n0 dX13_of_4 ?_
      refine G.getfield (k := 0) fl_X13_7 (by assumption) rfl dX13_of_5 ?_
      refine G.xlald (n := 10) 16 w dX13_of_8 rfl (by omega) ?_
      refine G.lreturn dX13_of_9 ?_
      exact ⟨_, rfl, (by rw [show ((some (e.1 (wPm false w)) : Option Int64)).isNone = false from rfl, hid]), fun v hv => by cases hv; exact hE w hww⟩
    · refine ⟨fun x hx => absurd (ciNe ha hx).1 (by decide), fun x hx => absurd (ciNe ha hx).1 (by decide), fun x hx => ?_, fun x hx => absurd (ciNe ha hx).1 (by decide), 14, _, ha, Or.inr (Or.inr (Or.inl rfl))⟩
      cases ho
    · refine ⟨fun x hx => absurd (ciNe ha hx).1 (by decide), fun x hx => absurd (ciNe ha hx).1 (by decide), fun x hx => absurd (ciNe ha hx).1 (by decide), fun x hx => ?_, 15, _, ha, Or.inr (Or.inr (Or.inr rfl))⟩
      have hx2 := xbase (D := D) hB ha rfl
      refine Ct.of [some (.ref a), some (.ref (L.1 15)), none, none, none, none] rfl (Nat.le_of_ble_eq_true rfl) (show plainName RX15 = true by decide +kernel) rfl ?_
      refine G.aload_n0 dX15_of_0 ?_
      refine G.getfield (k := 0) fl_X15_7 (by assumption) rfl dX15_of_1 ?_
      refine G.aload_n1 dX15_of_4 ?_
      refine G.sum (d := 5 + f) rfl hB (ih b s1 D hs1 hB hE h0) cu_X15_20_X12_X12_of cu_X15_20_X13_X13_of cu_X15_20_X14_X14_of cu_X15_20_X15_X15_of dX15_of_5 (fun r1 H1 q1 => ?_) (Nat.le_of_ble_eq_true rfl) (jroom_of rfl rfl (by omega) (Nat.le_of_ble_eq_true rfl)) (jroom_of rfl rfl (by omega) (Nat.le_of_ble_eq_true rfl)) (jroom_of rfl rfl (by omega) (Nat.le_of_ble_eq_true rfl)) (jroom_of rfl rfl (by omega) (Nat.le_of_ble_eq_true rfl))
      cases e1 : s1 e with
      | none =>
        rw [e1] at q1
        obtain ⟨rfl, -⟩ := q1
        rw [zBj_n1 e1]
        have hb1 : (xs D 15 1 (bI (none : Option Int64).isNone)).1 15 1 = bI true := xs_1
        refine G.lstore_n2 dX15_of_8 ?_
        refine G.aload_n1 dX15_of_9 ?_
        refine G.xgeti 15 1 fl_X15_24 dX15_of_10 ?_
        rw [hb1]
        refine G.ifb_eq (tgt := 20) dX15_of_13 (by decide) (fun c_13 => ?_) (fun c_13 => ?_)
        · exact absurd c_13 (fun z => Bool.false_ne_true z.symm)
        · refine G.lconst (v := 0) dX15_of_16 (by decide) ?_
          refine G.goto (tgt := 28) dX15_of_17 (by decide) ?_
          refine G.lstore4 dX15_of_28 ?_
          refine G.aload_n1 dX15_of_30 ?_
          refine G.xgeti 15 1 fl_X15_24 dX15_of_31 ?_
          rw [hb1]
          refine G.ifb_eq (tgt := 39) dX15_of_34 (by decide) (fun c_34 => ?_) (fun c_34 => ?_)
          · exact absurd c_34 (fun z => Bool.false_ne_true z.symm)
          · refine G.lconst (v := 0) dX15_of_37 (by decide) ?_
            refine G.lreturn dX15_of_38 ?_
            exact ⟨_, rfl, rfl, fun v hv => by cases hv⟩
      | some p =>
        rw [e1] at q1
        obtain ⟨rfl, hv1⟩ := q1
        obtain rfl := hv1 p rfl
        rw [show (bI (some r1 : Option Int64).isNone) = bI false from rfl, hid]
        have hb0 : D.1 15 1 = bI false := h0
        refine G.lstore_n2 dX15_of_8 ?_
        refine G.aload_n1 dX15_of_9 ?_
        refine G.xgeti 15 1 fl_X15_24 dX15_of_10 ?_
        rw [hb0]
        refine G.ifb_eq (tgt := 20) dX15_of_13 (by decide) (fun c_13 => ?_) (fun c_13 => ?_)
        · refine G.aload_n0 dX15_of_20 ?_
          refine G.getfield (k := 1) fl_X15_17 (by assumption) rfl dX15_of_21 ?_
          refine G.aload_n1 dX15_of_24 ?_
          refine G.sum (d := 5 + f) rfl hB (ih c s2 D hs2 hB hE h0) cu_X15_20_X12_X12_of cu_X15_20_X13_X13_of cu_X15_20_X14_X14_of cu_X15_20_X15_X15_of dX15_of_25 (fun r2 H2 q2 => ?_) (Nat.le_of_ble_eq_true rfl) (jroom_of rfl rfl (by omega) (Nat.le_of_ble_eq_true rfl)) (jroom_of rfl rfl (by omega) (Nat.le_of_ble_eq_true rfl)) (jroom_of rfl rfl (by omega) (Nat.le_of_ble_eq_true rfl)) (jroom_of rfl rfl (by omega) (Nat.le_of_ble_eq_true rfl))
          cases e2 : s2 e with
          | none =>
            rw [e2] at q2
            obtain ⟨rfl, -⟩ := q2
            rw [zBj_n2 e2]
            have hb1 : (xs D 15 1 (bI (none : Option Int64).isNone)).1 15 1 = bI true := xs_1
            refine G.lstore4 dX15_of_28 ?_
            refine G.aload_n1 dX15_of_30 ?_
            refine G.xgeti 15 1 fl_X15_24 dX15_of_31 ?_
            rw [hb1]
            refine G.ifb_eq (tgt := 39) dX15_of_34 (by decide) (fun c_34 => ?_) (fun c_34 => ?_)
            · exact absurd c_34 (fun z => Bool.false_ne_true z.symm)
            · refine G.lconst (v := 0) dX15_of_37 (by decide) ?_
              refine G.lreturn dX15_of_38 ?_
              exact ⟨_, rfl, rfl, fun v hv => by cases hv⟩
          | some q =>
            rw [e2] at q2
            obtain ⟨rfl, hv2⟩ := q2
            obtain rfl := hv2 q rfl
            rw [show (bI (some r2 : Option Int64).isNone) = bI false from rfl, hid]
            rw [zBin_ev hk e1 e2]
            have k142 : ∀ w, (if nI k = nI 47 then (if r2 = 0 then none else some (r1 / r2)) else if nI k = nI 37 then (if r2 = 0 then none else some (r1 - r1 / r2 * r2)) else if nI k = nI 43 then zWithin (r1 + r2) else if nI k = nI 45 then zWithin (r1 - r2) else zWithin (r1 * r2)) = zWithin w → G E (fX15_of (5 + (f + 1))) (jFin E (fX15_of (5 + (f + 1))) (pJ fun r h' => h' = xov L (xs D 15 1 (bI (if nI k = nI 47 then (if r2 = 0 then none else some (r1 / r2)) else if nI k = nI 37 then (if r2 = 0 then none else some (r1 - r1 / r2 * r2)) else if nI k = nI 43 then zWithin (r1 + r2) else if nI k = nI 45 then zWithin (r1 - r2) else zWithin (r1 * r2)).isNone)) ph ∧ ∀ v, (if nI k = nI 47 then (if r2 = 0 then none else some (r1 / r2)) else if nI k = nI 37 then (if r2 = 0 then none else some (r1 - r1 / r2 * r2)) else if nI k = nI 43 then zWithin (r1 + r2) else if nI k = nI 45 then zWithin (r1 - r2) else zWithin (r1 * r2)) = some v → r = v) jNo) 142 [some (.ref a), some (.ref (L.1 15)), some (.long r1), none, some (.long r2), none] [.long w, .ref (L.1 15)] (xov L D ph) 0 0 := by
              intro w hw
              rw [hw]
              refine G.xcall (f' := fX3_within) 15 q1298 ck_X3_within (c_withinA h0) dX15_of_142 (wJ.k fun r_142 D_142 h_142 => ?_) (hroom := jroom_of rfl rfl (by omega) (Nat.le_of_ble_eq_true rfl))
              obtain ⟨rfl, g2⟩ := h_142
              refine G.lreturn dX15_of_145 ?_
              exact ⟨_, rfl, rfl, g2⟩
            refine G.lstore4 dX15_of_28 ?_
            refine G.aload_n1 dX15_of_30 ?_
            refine G.xgeti 15 1 fl_X15_24 dX15_of_31 ?_
            rw [hb0]
            refine G.ifb_eq (tgt := 39) dX15_of_34 (by decide) (fun c_34 => ?_) (fun c_34 => ?_)
            · refine G.aload_n0 dX15_of_39 ?_
              refine G.getfield (k := 2) fl_X15_13 (by assumption) rfl dX15_of_40 ?_
              refine G.bipush (v := nI 47) dX15_of_43 (by decide) ?_
              refine G.icmp_eq (tgt := 57) dX15_of_45 (by decide) (fun c_45 => ?_) (fun c_45 => ?_)
              · refine G.aload_n1 dX15_of_57 ?_
                refine G.lload4 dX15_of_58 ?_
                refine G.lconst (v := 0) dX15_of_60 (by decide) ?_
                refine G.lcmp dX15_of_61 ?_
                refine G.if_ne (tgt := 69) dX15_of_62 (by decide) (fun c_62 => ?_) (fun c_62 => ?_)
                · refine G.iconst (v := nI 0) dX15_of_69 (by decide) ?_
                  refine G.xputi 15 1 fp_X15_24 dX15_of_70 ?_ (hn := by first | rfl | exact bI_nar _) (hfit := by first | rfl | exact bI_fit _)
                  refine G.lload4 dX15_of_73 ?_
                  refine G.lconst (v := 0) dX15_of_75 (by decide) ?_
                  refine G.lcmp dX15_of_76 ?_
                  refine G.if_ne (tgt := 84) dX15_of_77 (by decide) (fun c_77 => ?_) (fun c_77 => ?_)
                  · refine G.aload_n0 dX15_of_84 ?_
                    refine G.getfield (k := 2) fl_X15_13 (xbase (D := xs D 15 1 _) hB ha rfl) rfl dX15_of_85 ?_
                    refine G.bipush (v := nI 47) dX15_of_88 (by decide) ?_
                    refine G.icmp_ne (tgt := 100) dX15_of_90 (by decide) (fun c_90 => ?_) (fun c_90 => ?_)
                    · refine G.lload_n2 dX15_of_100 ?_
                      refine G.lload4 dX15_of_101 ?_
                      refine G.lrem dX15_of_103 (fun z => c_77 (lg_eq.mpr z)) ?_
                      refine G.lreturn dX15_of_104 ?_
                      first
                      | exact absurd c_62 c_77
                      | exact absurd c_77 c_62
                      | exact absurd c_45 c_90
                      | exact absurd c_90 c_45
                      | (rw [if_pos c_45, if_pos (lg_eq.mp c_62)]
                         exact ⟨_, rfl, rfl, fun v hv => by cases hv⟩)
                      | (rw [if_neg c_45, if_pos c_54, if_pos (lg_eq.mp c_62)]
                         exact ⟨_, rfl, rfl, fun v hv => by cases hv⟩)
                      | (rw [if_pos c_45, if_neg (fun z => c_62 (lg_eq.mpr z))]
                         exact ⟨_, rfl, rfl, fun v hv => by cases hv; rfl⟩)
                      | (rw [if_neg c_45, if_pos c_54, if_neg (fun z => c_62 (lg_eq.mpr z))]
                         exact ⟨_, rfl, rfl, fun v hv => by cases hv; rfl⟩)
                    · refine G.lload_n2 dX15_of_93 ?_
                      refine G.lload4 dX15_of_94 ?_
                      refine G.ldiv dX15_of_96 (fun z => c_77 (lg_eq.mpr z)) ?_
                      refine G.goto (tgt := 104) dX15_of_97 (by decide) ?_
                      refine G.lreturn dX15_of_104 ?_
                      first
                      | exact absurd c_62 c_77
                      | exact absurd c_77 c_62
                      | exact absurd c_45 c_90
                      | exact absurd c_90 c_45
                      | (rw [if_pos c_45, if_pos (lg_eq.mp c_62)]
                         exact ⟨_, rfl, rfl, fun v hv => by cases hv⟩)
                      | (rw [if_neg c_45, if_pos c_54, if_pos (lg_eq.mp c_62)]
                         exact ⟨_, rfl, rfl, fun v hv => by cases hv⟩)
                      | (rw [if_pos c_45, if_neg (fun z => c_62 (lg_eq.mpr z))]
                         exact ⟨_, rfl, rfl, fun v hv => by cases hv; rfl⟩)
                      | (rw [if_neg c_45, if_pos c_54, if_neg (fun z => c_62 (lg_eq.mpr z))]
                         exact ⟨_, rfl, rfl, fun v hv => by cases hv; rfl⟩)
                  · refine G.lconst (v := 0) dX15_of_80 (by decide) ?_
                    refine G.goto (tgt := 104) dX15_of_81 (by decide) ?_
                    refine G.lreturn dX15_of_104 ?_
                    first
                    | exact absurd c_62 c_77
                    | exact absurd c_77 c_62
                    | exact absurd c_45 c_90
                    | exact absurd c_90 c_45
                    | (rw [if_pos c_45, if_pos (lg_eq.mp c_62)]
                       exact ⟨_, rfl, rfl, fun v hv => by cases hv⟩)
                    | (rw [if_neg c_45, if_pos c_54, if_pos (lg_eq.mp c_62)]
                       exact ⟨_, rfl, rfl, fun v hv => by cases hv⟩)
                    | (rw [if_pos c_45, if_neg (fun z => c_62 (lg_eq.mpr z))]
                       exact ⟨_, rfl, rfl, fun v hv => by cases hv; rfl⟩)
                    | (rw [if_neg c_45, if_pos c_54, if_neg (fun z => c_62 (lg_eq.mpr z))]
                       exact ⟨_, rfl, rfl, fun v hv => by cases hv; rfl⟩)
                · refine G.iconst (v := nI 1) dX15_of_65 (by decide) ?_
                  refine G.goto (tgt := 70) dX15_of_66 (by decide) ?_
                  refine G.xputi 15 1 fp_X15_24 dX15_of_70 ?_ (hn := by first | rfl | exact bI_nar _) (hfit := by first | rfl | exact bI_fit _)
                  refine G.lload4 dX15_of_73 ?_
                  refine G.lconst (v := 0) dX15_of_75 (by decide) ?_
                  refine G.lcmp dX15_of_76 ?_
                  refine G.if_ne (tgt := 84) dX15_of_77 (by decide) (fun c_77 => ?_) (fun c_77 => ?_)
                  · refine G.aload_n0 dX15_of_84 ?_
                    refine G.getfield (k := 2) fl_X15_13 (xbase (D := xs D 15 1 _) hB ha rfl) rfl dX15_of_85 ?_
                    refine G.bipush (v := nI 47) dX15_of_88 (by decide) ?_
                    refine G.icmp_ne (tgt := 100) dX15_of_90 (by decide) (fun c_90 => ?_) (fun c_90 => ?_)
                    · refine G.lload_n2 dX15_of_100 ?_
                      refine G.lload4 dX15_of_101 ?_
                      refine G.lrem dX15_of_103 (fun z => c_77 (lg_eq.mpr z)) ?_
                      refine G.lreturn dX15_of_104 ?_
                      first
                      | exact absurd c_62 c_77
                      | exact absurd c_77 c_62
                      | exact absurd c_45 c_90
                      | exact absurd c_90 c_45
                      | (rw [if_pos c_45, if_pos (lg_eq.mp c_62)]
                         exact ⟨_, rfl, rfl, fun v hv => by cases hv⟩)
                      | (rw [if_neg c_45, if_pos c_54, if_pos (lg_eq.mp c_62)]
                         exact ⟨_, rfl, rfl, fun v hv => by cases hv⟩)
                      | (rw [if_pos c_45, if_neg (fun z => c_62 (lg_eq.mpr z))]
                         exact ⟨_, rfl, rfl, fun v hv => by cases hv; rfl⟩)
                      | (rw [if_neg c_45, if_pos c_54, if_neg (fun z => c_62 (lg_eq.mpr z))]
                         exact ⟨_, rfl, rfl, fun v hv => by cases hv; rfl⟩)
                    · refine G.lload_n2 dX15_of_93 ?_
                      refine G.lload4 dX15_of_94 ?_
                      refine G.ldiv dX15_of_96 (fun z => c_77 (lg_eq.mpr z)) ?_
                      refine G.goto (tgt := 104) dX15_of_97 (by decide) ?_
                      refine G.lreturn dX15_of_104 ?_
                      first
                      | exact absurd c_62 c_77
                      | exact absurd c_77 c_62
                      | exact absurd c_45 c_90
                      | exact absurd c_90 c_45
                      | (rw [if_pos c_45, if_pos (lg_eq.mp c_62)]
                         exact ⟨_, rfl, rfl, fun v hv => by cases hv⟩)
                      | (rw [if_neg c_45, if_pos c_54, if_pos (lg_eq.mp c_62)]
                         exact ⟨_, rfl, rfl, fun v hv => by cases hv⟩)
                      | (rw [if_pos c_45, if_neg (fun z => c_62 (lg_eq.mpr z))]
                         exact ⟨_, rfl, rfl, fun v hv => by cases hv; rfl⟩)
                      | (rw [if_neg c_45, if_pos c_54, if_neg (fun z => c_62 (lg_eq.mpr z))]
                         exact ⟨_, rfl, rfl, fun v hv => by cases hv; rfl⟩)
                  · refine G.lconst (v := 0) dX15_of_80 (by decide) ?_
                    refine G.goto (tgt := 104) dX15_of_81 (by decide) ?_
                    refine G.lreturn dX15_of_104 ?_
                    first
                    | exact absurd c_62 c_77
                    | exact absurd c_77 c_62
                    | exact absurd c_45 c_90
                    | exact absurd c_90 c_45
                    | (rw [if_pos c_45, if_pos (lg_eq.mp c_62)]
                       exact ⟨_, rfl, rfl, fun v hv => by cases hv⟩)
                    | (rw [if_neg c_45, if_pos c_54, if_pos (lg_eq.mp c_62)]
                       exact ⟨_, rfl, rfl, fun v hv => by cases hv⟩)
                    | (rw [if_pos c_45, if_neg (fun z => c_62 (lg_eq.mpr z))]
                       exact ⟨_, rfl, rfl, fun v hv => by cases hv; rfl⟩)
                    | (rw [if_neg c_45, if_pos c_54, if_neg (fun z => c_62 (lg_eq.mpr z))]
                       exact ⟨_, rfl, rfl, fun v hv => by cases hv; rfl⟩)
              · refine G.aload_n0 dX15_of_48 ?_
                refine G.getfield (k := 2) fl_X15_13 (by assumption) rfl dX15_of_49 ?_
                refine G.bipush (v := nI 37) dX15_of_52 (by decide) ?_
                refine G.icmp_ne (tgt := 105) dX15_of_54 (by decide) (fun c_54 => ?_) (fun c_54 => ?_)
                · refine G.aload_n1 dX15_of_105 ?_
                  refine G.aload_n0 dX15_of_106 ?_
                  refine G.getfield (k := 2) fl_X15_13 (by assumption) rfl dX15_of_107 ?_
                  refine G.bipush (v := nI 43) dX15_of_110 (by decide) ?_
                  refine G.icmp_ne (tgt := 122) dX15_of_112 (by decide) (fun c_112 => ?_) (fun c_112 => ?_)
                  · refine G.aload_n0 dX15_of_122 ?_
                    refine G.getfield (k := 2) fl_X15_13 (by assumption) rfl dX15_of_123 ?_
                    refine G.bipush (v := nI 45) dX15_of_126 (by decide) ?_
                    refine G.icmp_ne (tgt := 138) dX15_of_128 (by decide) (fun c_128 => ?_) (fun c_128 => ?_)
                    · refine G.lload_n2 dX15_of_138 ?_
                      refine G.lload4 dX15_of_139 ?_
                      refine G.lmul dX15_of_141 ?_
                      first
                      | exact k142 _ (by rw [if_neg c_45, if_neg c_54, if_pos (Classical.not_not.mp c_112)])
                      | exact k142 _ (by rw [if_neg c_45, if_neg c_54, if_pos c_112])
                      | exact k142 _ (by rw [if_neg c_45, if_neg c_54, if_neg c_112, if_pos (Classical.not_not.mp c_128)])
                      | exact k142 _ (by rw [if_neg c_45, if_neg c_54, if_neg c_112, if_pos c_128])
                      | exact k142 _ (by rw [if_neg c_45, if_neg c_54, if_neg c_112, if_neg c_128])
                    · refine G.lload_n2 dX15_of_131 ?_
                      refine G.lload4 dX15_of_132 ?_
                      refine G.lsub dX15_of_134 ?_
                      refine G.goto (tgt := 142) dX15_of_135 (by decide) ?_
                      first
                      | exact k142 _ (by rw [if_neg c_45, if_neg c_54, if_pos (Classical.not_not.mp c_112)])
                      | exact k142 _ (by rw [if_neg c_45, if_neg c_54, if_pos c_112])
                      | exact k142 _ (by rw [if_neg c_45, if_neg c_54, if_neg c_112, if_pos (Classical.not_not.mp c_128)])
                      | exact k142 _ (by rw [if_neg c_45, if_neg c_54, if_neg c_112, if_pos c_128])
                      | exact k142 _ (by rw [if_neg c_45, if_neg c_54, if_neg c_112, if_neg c_128])
                  · refine G.lload_n2 dX15_of_115 ?_
                    refine G.lload4 dX15_of_116 ?_
                    refine G.ladd dX15_of_118 ?_
                    refine G.goto (tgt := 142) dX15_of_119 (by decide) ?_
                    first
                    | exact k142 _ (by rw [if_neg c_45, if_neg c_54, if_pos (Classical.not_not.mp c_112)])
                    | exact k142 _ (by rw [if_neg c_45, if_neg c_54, if_pos c_112])
                    | exact k142 _ (by rw [if_neg c_45, if_neg c_54, if_neg c_112, if_pos (Classical.not_not.mp c_128)])
                    | exact k142 _ (by rw [if_neg c_45, if_neg c_54, if_neg c_112, if_pos c_128])
                    | exact k142 _ (by rw [if_neg c_45, if_neg c_54, if_neg c_112, if_neg c_128])
                · refine G.aload_n1 dX15_of_57 ?_
                  refine G.lload4 dX15_of_58 ?_
                  refine G.lconst (v := 0) dX15_of_60 (by decide) ?_
                  refine G.lcmp dX15_of_61 ?_
                  refine G.if_ne (tgt := 69) dX15_of_62 (by decide) (fun c_62 => ?_) (fun c_62 => ?_)
                  · refine G.iconst (v := nI 0) dX15_of_69 (by decide) ?_
                    refine G.xputi 15 1 fp_X15_24 dX15_of_70 ?_ (hn := by first | rfl | exact bI_nar _) (hfit := by first | rfl | exact bI_fit _)
                    refine G.lload4 dX15_of_73 ?_
                    refine G.lconst (v := 0) dX15_of_75 (by decide) ?_
                    refine G.lcmp dX15_of_76 ?_
                    refine G.if_ne (tgt := 84) dX15_of_77 (by decide) (fun c_77 => ?_) (fun c_77 => ?_)
                    · refine G.aload_n0 dX15_of_84 ?_
                      refine G.getfield (k := 2) fl_X15_13 (xbase (D := xs D 15 1 _) hB ha rfl) rfl dX15_of_85 ?_
                      refine G.bipush (v := nI 47) dX15_of_88 (by decide) ?_
                      refine G.icmp_ne (tgt := 100) dX15_of_90 (by decide) (fun c_90 => ?_) (fun c_90 => ?_)
                      · refine G.lload_n2 dX15_of_100 ?_
                        refine G.lload4 dX15_of_101 ?_
                        refine G.lrem dX15_of_103 (fun z => c_77 (lg_eq.mpr z)) ?_
                        refine G.lreturn dX15_of_104 ?_
                        first
                        | exact absurd c_62 c_77
                        | exact absurd c_77 c_62
                        | exact absurd c_45 c_90
                        | exact absurd c_90 c_45
                        | (rw [if_pos c_45, if_pos (lg_eq.mp c_62)]
                           exact ⟨_, rfl, rfl, fun v hv => by cases hv⟩)
                        | (rw [if_neg c_45, if_pos c_54, if_pos (lg_eq.mp c_62)]
                           exact ⟨_, rfl, rfl, fun v hv => by cases hv⟩)
                        | (rw [if_pos c_45, if_neg (fun z => c_62 (lg_eq.mpr z))]
                           exact ⟨_, rfl, rfl, fun v hv => by cases hv; rfl⟩)
                        | (rw [if_neg c_45, if_pos c_54, if_neg (fun z => c_62 (lg_eq.mpr z))]
                           exact ⟨_, rfl, rfl, fun v hv => by cases hv; rfl⟩)
                      · refine G.lload_n2 dX15_of_93 ?_
                        refine G.lload4 dX15_of_94 ?_
                        refine G.ldiv dX15_of_96 (fun z => c_77 (lg_eq.mpr z)) ?_
                        refine G.goto (tgt := 104) dX15_of_97 (by decide) ?_
                        refine G.lreturn dX15_of_104 ?_
                        first
                        | exact absurd c_62 c_77
                        | exact absurd c_77 c_62
                        | exact absurd c_45 c_90
                        | exact absurd c_90 c_45
                        | (rw [if_pos c_45, if_pos (lg_eq.mp c_62)]
                           exact ⟨_, rfl, rfl, fun v hv => by cases hv⟩)
                        | (rw [if_neg c_45, if_pos c_54, if_pos (lg_eq.mp c_62)]
                           exact ⟨_, rfl, rfl, fun v hv => by cases hv⟩)
                        | (rw [if_pos c_45, if_neg (fun z => c_62 (lg_eq.mpr z))]
                           exact ⟨_, rfl, rfl, fun v hv => by cases hv; rfl⟩)
                        | (rw [if_neg c_45, if_pos c_54, if_neg (fun z => c_62 (lg_eq.mpr z))]
                           exact ⟨_, rfl, rfl, fun v hv => by cases hv; rfl⟩)
                    · refine G.lconst (v := 0) dX15_of_80 (by decide) ?_
                      refine G.goto (tgt := 104) dX15_of_81 (by decide) ?_
                      refine G.lreturn dX15_of_104 ?_
                      first
                      | exact absurd c_62 c_77
                      | exact absurd c_77 c_62
                      | exact absurd c_45 c_90
                      | exact absurd c_90 c_45
                      | (rw [if_pos c_45, if_pos (lg_eq.mp c_62)]
                         exact ⟨_, rfl, rfl, fun v hv => by cases hv⟩)
                      | (rw [if_neg c_45, if_pos c_54, if_pos (lg_eq.mp c_62)]
                         exact ⟨_, rfl, rfl, fun v hv => by cases hv⟩)
                      | (rw [if_pos c_45, if_neg (fun z => c_62 (lg_eq.mpr z))]
                         exact ⟨_, rfl, rfl, fun v hv => by cases hv; rfl⟩)
                      | (rw [if_neg c_45, if_pos c_54, if_neg (fun z => c_62 (lg_eq.mpr z))]
                         exact ⟨_, rfl, rfl, fun v hv => by cases hv; rfl⟩)
                  · refine G.iconst (v := nI 1) dX15_of_65 (by decide) ?_
                    refine G.goto (tgt := 70) dX15_of_66 (by decide) ?_
                    refine G.xputi 15 1 fp_X15_24 dX15_of_70 ?_ (hn := by first | rfl | exact bI_nar _) (hfit := by first | rfl | exact bI_fit _)
                    refine G.lload4 dX15_of_73 ?_
                    refine G.lconst (v := 0) dX15_of_75 (by decide) ?_
                    refine G.lcmp dX15_of_76 ?_
                    refine G.if_ne (tgt := 84) dX15_of_77 (by decide) (fun c_77 => ?_) (fun c_77 => ?_)
                    · refine G.aload_n0 dX15_of_84 ?_
                      refine G.getfield (k := 2) fl_X15_13 (xbase (D := xs D 15 1 _) hB ha rfl) rfl dX15_of_85 ?_
                      refine G.bipush (v := nI 47) dX15_of_88 (by decide) ?_
                      refine G.icmp_ne (tgt := 100) dX15_of_90 (by decide) (fun c_90 => ?_) (fun c_90 => ?_)
                      · refine G.lload_n2 dX15_of_100 ?_
                        refine G.lload4 dX15_of_101 ?_
                        refine G.lrem dX15_of_103 (fun z => c_77 (lg_eq.mpr z)) ?_
                        refine G.lreturn dX15_of_104 ?_
                        first
                        | exact absurd c_62 c_77
                        | exact absurd c_77 c_62
                        | exact absurd c_45 c_90
                        | exact absurd c_90 c_45
                        | (rw [if_pos c_45, if_pos (lg_eq.mp c_62)]
                           exact ⟨_, rfl, rfl, fun v hv => by cases hv⟩)
                        | (rw [if_neg c_45, if_pos c_54, if_pos (lg_eq.mp c_62)]
                           exact ⟨_, rfl, rfl, fun v hv => by cases hv⟩)
                        | (rw [if_pos c_45, if_neg (fun z => c_62 (lg_eq.mpr z))]
                           exact ⟨_, rfl, rfl, fun v hv => by cases hv; rfl⟩)
                        | (rw [if_neg c_45, if_pos c_54, if_neg (fun z => c_62 (lg_eq.mpr z))]
                           exact ⟨_, rfl, rfl, fun v hv => by cases hv; rfl⟩)
                      · refine G.lload_n2 dX15_of_93 ?_
                        refine G.lload4 dX15_of_94 ?_
                        refine G.ldiv dX15_of_96 (fun z => c_77 (lg_eq.mpr z)) ?_
                        refine G.goto (tgt := 104) dX15_of_97 (by decide) ?_
                        refine G.lreturn dX15_of_104 ?_
                        first
                        | exact absurd c_62 c_77
                        | exact absurd c_77 c_62
                        | exact absurd c_45 c_90
                        | exact absurd c_90 c_45
                        | (rw [if_pos c_45, if_pos (lg_eq.mp c_62)]
                           exact ⟨_, rfl, rfl, fun v hv => by cases hv⟩)
                        | (rw [if_neg c_45, if_pos c_54, if_pos (lg_eq.mp c_62)]
                           exact ⟨_, rfl, rfl, fun v hv => by cases hv⟩)
                        | (rw [if_pos c_45, if_neg (fun z => c_62 (lg_eq.mpr z))]
                           exact ⟨_, rfl, rfl, fun v hv => by cases hv; rfl⟩)
                        | (rw [if_neg c_45, if_pos c_54, if_neg (fun z => c_62 (lg_eq.mpr z))]
                           exact ⟨_, rfl, rfl, fun v hv => by cases hv; rfl⟩)
                    · refine G.lconst (v := 0) dX15_of_80 (by decide) ?_
                      refine G.goto (tgt := 104) dX15_of_81 (by decide) ?_
                      refine G.lreturn dX15_of_104 ?_
                      first
                      | exact absurd c_62 c_77
                      | exact absurd c_77 c_62
                      | exact absurd c_45 c_90
                      | exact absurd c_90 c_45
                      | (rw [if_pos c_45, if_pos (lg_eq.mp c_62)]
                         exact ⟨_, rfl, rfl, fun v hv => by cases hv⟩)
                      | (rw [if_neg c_45, if_pos c_54, if_pos (lg_eq.mp c_62)]
                         exact ⟨_, rfl, rfl, fun v hv => by cases hv⟩)
                      | (rw [if_pos c_45, if_neg (fun z => c_62 (lg_eq.mpr z))]
                         exact ⟨_, rfl, rfl, fun v hv => by cases hv; rfl⟩)
                      | (rw [if_neg c_45, if_pos c_54, if_neg (fun z => c_62 (lg_eq.mpr z))]
                         exact ⟨_, rfl, rfl, fun v hv => by cases hv; rfl⟩)
            · exact absurd c_34 Bool.false_ne_true
        · exact absurd c_13 Bool.false_ne_true
end TellA
section TellO
variable {E : JE} {L : XL} {ph : HP} {e : En} {n : Nat}
theorem c_withinO {D : XD} {v : Int64} (h0 : D.1 17 1 = nI 0) : XC E fX3_within 17 L D ph [.long v] (wJ fun r D' => D' = xs D 17 1 (bI (zWithin v).isNone) ∧ ∀ w, zWithin v = some w → r = w) := by
  refine Ct.of [some (.ref (L.1 17)), some (.long v), none] rfl (Nat.le_of_ble_eq_true rfl) (show plainName RX3 = true by decide +kernel) rfl ?_
  refine G.aload_n0 dX3_within_0 ?_
  refine G.aload_n0 dX3_within_1 ?_
  refine G.xgeti 17 1 fl_X3_13 dX3_within_2 ?_
  rw [show D.1 17 1 = bI false from h0]
  refine G.ifb_ne (tgt := 24) dX3_within_5 (by decide) (fun c_5 => ?_) (fun c_5 => ?_)
  · exact absurd c_5 Bool.false_ne_true
  · refine G.lload_n1 dX3_within_8 ?_
    refine G.ldc2 q1302 dX3_within_9 ?_
    refine G.lcmp dX3_within_12 ?_
    refine G.if_gt (tgt := 24) dX3_within_13 (by decide) (fun c_13 => ?_) (fun c_13 => ?_)
    · have hz : zWithin v = none := zWithin_t (Or.inl (lg_gt.mp c_13))
      rw [hz]
      refine G.iconst (v := nI 1) dX3_within_24 (by decide) ?_
      refine G.goto (tgt := 29) dX3_within_25 (by decide) ?_
      refine G.xputi 17 1 fp_X3_13 dX3_within_29 ?_ (hn := by first | rfl | exact bI_nar _) (hfit := by first | rfl | exact bI_fit _)
      refine G.aload_n0 dX3_within_32 ?_
      refine G.xgeti 17 1 fl_X3_13 dX3_within_33 ?_
      first
      | rw [show (xs D 17 1 (nI 1)).1 17 1 = bI true from xs_1]
      | rw [show (xs D 17 1 (nI 0)).1 17 1 = bI false from xs_1]
      refine G.ifb_eq (tgt := 43) dX3_within_36 (by decide) (fun c_36 => ?_) (fun c_36 => ?_)
      · refine G.lload_n1 dX3_within_43 ?_
        refine G.lreturn dX3_within_44 ?_
        first
        | exact absurd c_36 Bool.false_ne_true
        | exact absurd c_36 (fun z => Bool.false_ne_true z.symm)
        | exact ⟨_, rfl, _, rfl, rfl, fun w hw => by cases hw <;> rfl⟩
      · refine G.lconst (v := 0) dX3_within_39 (by decide) ?_
        refine G.goto (tgt := 44) dX3_within_40 (by decide) ?_
        refine G.lreturn dX3_within_44 ?_
        first
        | exact absurd c_36 Bool.false_ne_true
        | exact absurd c_36 (fun z => Bool.false_ne_true z.symm)
        | exact ⟨_, rfl, _, rfl, rfl, fun w hw => by cases hw <;> rfl⟩
    · refine G.lload_n1 dX3_within_16 ?_
      refine G.ldc2 q1303 dX3_within_17 ?_
      refine G.lcmp dX3_within_20 ?_
      refine G.if_ge (tgt := 28) dX3_within_21 (by decide) (fun c_21 => ?_) (fun c_21 => ?_)
      · have hz : zWithin v = some v := zWithin_f (fun z => z.elim (fun y => c_13 (lg_gt.mpr y)) (fun y => absurd (lg_ge.mp c_21) (Int64.not_le.mpr y)))
        rw [hz]
        refine G.iconst (v := nI 0) dX3_within_28 (by decide) ?_
        refine G.xputi 17 1 fp_X3_13 dX3_within_29 ?_ (hn := by first | rfl | exact bI_nar _) (hfit := by first | rfl | exact bI_fit _)
        refine G.aload_n0 dX3_within_32 ?_
        refine G.xgeti 17 1 fl_X3_13 dX3_within_33 ?_
        first
        | rw [show (xs D 17 1 (nI 1)).1 17 1 = bI true from xs_1]
        | rw [show (xs D 17 1 (nI 0)).1 17 1 = bI false from xs_1]
        refine G.ifb_eq (tgt := 43) dX3_within_36 (by decide) (fun c_36 => ?_) (fun c_36 => ?_)
        · refine G.lload_n1 dX3_within_43 ?_
          refine G.lreturn dX3_within_44 ?_
          first
          | exact absurd c_36 Bool.false_ne_true
          | exact absurd c_36 (fun z => Bool.false_ne_true z.symm)
          | exact ⟨_, rfl, _, rfl, rfl, fun w hw => by cases hw <;> rfl⟩
        · refine G.lconst (v := 0) dX3_within_39 (by decide) ?_
          refine G.goto (tgt := 44) dX3_within_40 (by decide) ?_
          refine G.lreturn dX3_within_44 ?_
          first
          | exact absurd c_36 Bool.false_ne_true
          | exact absurd c_36 (fun z => Bool.false_ne_true z.symm)
          | exact ⟨_, rfl, _, rfl, rfl, fun w hw => by cases hw <;> rfl⟩
      · have hz : zWithin v = none := zWithin_t (Or.inr (Int64.not_le.mp (fun y => c_21 (lg_ge.mpr y))))
        rw [hz]
        refine G.iconst (v := nI 1) dX3_within_24 (by decide) ?_
        refine G.goto (tgt := 29) dX3_within_25 (by decide) ?_
        refine G.xputi 17 1 fp_X3_13 dX3_within_29 ?_ (hn := by first | rfl | exact bI_nar _) (hfit := by first | rfl | exact bI_fit _)
        refine G.aload_n0 dX3_within_32 ?_
        refine G.xgeti 17 1 fl_X3_13 dX3_within_33 ?_
        first
        | rw [show (xs D 17 1 (nI 1)).1 17 1 = bI true from xs_1]
        | rw [show (xs D 17 1 (nI 0)).1 17 1 = bI false from xs_1]
        refine G.ifb_eq (tgt := 43) dX3_within_36 (by decide) (fun c_36 => ?_) (fun c_36 => ?_)
        · refine G.lload_n1 dX3_within_43 ?_
          refine G.lreturn dX3_within_44 ?_
          first
          | exact absurd c_36 Bool.false_ne_true
          | exact absurd c_36 (fun z => Bool.false_ne_true z.symm)
          | exact ⟨_, rfl, _, rfl, rfl, fun w hw => by cases hw <;> rfl⟩
        · refine G.lconst (v := 0) dX3_within_39 (by decide) ?_
          refine G.goto (tgt := 44) dX3_within_40 (by decide) ?_
          refine G.lreturn dX3_within_44 ?_
          first
          | exact absurd c_36 Bool.false_ne_true
          | exact absurd c_36 (fun z => Bool.false_ne_true z.symm)
          | exact ⟨_, rfl, _, rfl, rfl, fun w hw => by cases hw <;> rfl⟩
/-- sums, however high -/
theorem e_smO : ∀ (f a : Nat) (s : Sm) (D : XD), rSm (L.1 0) true ph f a s → xdis L D ph → envO n D e → D.1 17 1 = nI 0 → smC E L D ph 17 (5 + f) a (fun r h' => h' = xov L (xs D 17 1 (bI (s e).isNone)) ph ∧ ∀ v, s e = some v → r = v) := by
  intro f
  induction f with
  | zero => intro a s D h; exact h.elim
  | succ f ih =>
    intro a s D h hB hE h0
    have hid : xs D 17 1 (bI false) = D := xs_id h0
    rw [rSm] at h
    rcases h with ⟨v, ha, rfl⟩ | ⟨w, hw, ha, rfl⟩ | ⟨ho, b, p, hp, ha, rfl⟩ | ⟨b, c, k, s1, s2, ha, hk, hs1, hs2, rfl⟩
    · refine ⟨fun x hx => ?_, fun x hx => absurd (ciNe ha hx).1 (by decide), fun x hx => absurd (ciNe ha hx).1 (by decide), fun x hx => absurd (ciNe ha hx).1 (by decide), 12, _, ha, Or.inl rfl⟩
      have hx2 := xbase (D := D) hB ha rfl
      refine Ct.of [some (.ref a), some (.ref (L.1 17))] rfl (Nat.le_of_ble_eq_true rfl) (show plainName RX12 = true by decide +kernel) rfl ?_
      refine G.aload_n0 dX12_of_0 ?_
      refine G.getfield (k := 0) fl_X12_7 (by assumption) rfl dX12_of_1 ?_
      refine G.i2l dX12_of_4 rfl ?_
      refine G.lreturn dX12_of_5 ?_
      exact ⟨_, rfl, (by rw [show ((some v.toInt64 : Option Int64)).isNone = false from rfl, hid]), fun w hw => by cases hw <;> rfl⟩
    · refine ⟨fun x hx => absurd (ciNe ha hx).1 (by decide), fun x hx => ?_, fun x hx => absurd (ciNe ha hx).1 (by decide), fun x hx => absurd (ciNe ha hx).1 (by decide), 13, _, ha, Or.inr (Or.inl rfl)⟩
      have hx2 := xbase (D := D) hB ha rfl
      have hww : w < 5 := hw
      refine Ct.of [some (.ref a), some (.ref (L.1 17))] rfl (Nat.le_of_ble_eq_true rfl) (show plainName RX13 = true by decide +kernel) rfl ?_
      refine G.aload_n1 dX13_of_0 ?_
      refine G.xgetf 17 0 18 fl_X13_13 dX13_of_1 ?_
      refine G.aload_n0 dX13_of_4 ?_
      refine G.getfield (k := 0) fl_X13_7 (by assumption) rfl dX13_of_5 ?_
      refine G.xlald (n := 10) 18 w dX13_of_8 rfl (by omega) ?_
      refine G.lreturn dX13_of_9 ?_
      exact ⟨_, rfl, (by rw [show ((some (e.1 (wPm true w)) : Option Int64)).isNone = false from rfl, hid]), fun v hv => by cases hv; exact hE.1 w hww⟩
    · refine ⟨fun x hx => absurd (ciNe ha hx).1 (by decide), fun x hx => absurd (ciNe ha hx).1 (by decide), fun x hx => ?_, fun x hx => absurd (ciNe ha hx).1 (by decide), 14, _, ha, Or.inr (Or.inr (Or.inl rfl))⟩
      have hx2 := xbase (D := D) hB ha rfl
      obtain ⟨en1, hn, hen2, en3, en4⟩ := hE
      have hid2 : ∀ v : Int64, (bI ((some v : Option Int64)).isNone) = bI false := fun _ => rfl
      have hpn : (0 ≤ (nI p).toInt ∧ (nI p).toInt < (n : Int)) ↔ p < n := by rw [t_nI (by omega)]; omega
      refine Ct.of [some (.ref a), some (.ref (L.1 17))] rfl (Nat.le_of_ble_eq_true rfl) (show plainName RX14 = true by decide +kernel) rfl ?_
      refine G.aload_n0 dX14_of_0 ?_
      refine G.getfield (k := 2) fl_X14_3 (by assumption) rfl dX14_of_1 ?_
      refine G.aload_n0 dX14_of_4 ?_
      refine G.getfield (k := 1) fl_X14_19 (by assumption) rfl dX14_of_5 ?_
      refine G.xcallN (f' := fX0_isPerson) 0 q1292 ck_X0_isPerson (c_X0_isPerson hn hen2 _) dX14_of_8 (wI.k fun r_8 D_8 h_8 => ?_)
      obtain ⟨e_8, h_8⟩ := h_8; replace e_8 := e_8.symm; replace h_8 := h_8.symm; subst e_8; subst h_8
      refine G.ifb_ne (tgt := 20) dX14_of_11 (by decide) (fun c_11 => ?_) (fun c_11 => ?_)
      · have hin : p < n := hpn.mp (of_decide_eq_true c_11)
        refine G.aload_n0 dX14_of_20 ?_
        refine G.getfield (k := 0) fl_X14_15 (by assumption) rfl dX14_of_21 ?_
        refine G.ifb_eq (tgt := 45) dX14_of_24 (by decide) (fun c_24 => ?_) (fun c_24 => ?_)
        · refine G.aload_n0 dX14_of_45 ?_
          refine G.getfield (k := 2) fl_X14_3 (by assumption) rfl dX14_of_46 ?_
          refine G.xcallN (f' := fX0_books) 0 q1294 ck_X0_books (c_X0_books) dX14_of_49 (wA.k fun r_49 D_49 h_49 => ?_)
          obtain ⟨e_49, h_49⟩ := h_49; replace e_49 := e_49.symm; replace h_49 := h_49.symm; subst e_49; subst h_49
          refine G.xgetf 6 0 7 fl_X14_38 dX14_of_52 ?_
          refine G.aload_n0 dX14_of_55 ?_
          refine G.getfield (k := 1) fl_X14_19 (by assumption) rfl dX14_of_56 ?_
          refine G.xiald (n := 10) 7 p dX14_of_59 rfl (by omega) ?_
          refine G.iconst (v := nI 2) dX14_of_60 (by decide) ?_
          refine G.icmp_ne (tgt := 68) dX14_of_61 (by decide) (fun c_61 => ?_) (fun c_61 => ?_)
          · refine G.lconst (v := 0) dX14_of_68 (by decide) ?_
            refine G.lreturn dX14_of_69 ?_
            refine ⟨_, rfl, (by rw [hid2, hid]), fun v hv => ?_⟩
            cases hv
            cases b with
            | true =>
              first
                | exact absurd c_24 Bool.false_ne_true
                | exact absurd c_24 (fun z => Bool.false_ne_true z.symm)
                | (rw [if_pos rfl, en3 p hp, if_neg hin])
                | (rw [if_pos rfl, en3 p hp, if_pos hin])
            | false =>
              first
                | exact absurd c_24 Bool.false_ne_true
                | exact absurd c_24 (fun z => Bool.false_ne_true z.symm)
                | (rw [if_neg Bool.false_ne_true, en4 p hp, if_neg hin])
                | (rw [if_neg Bool.false_ne_true, en4 p hp, if_pos hin, if_neg c_61])
                | (rw [if_neg Bool.false_ne_true, en4 p hp, if_pos hin, if_pos c_61])
                | (rw [if_neg Bool.false_ne_true, en4 p hp, if_pos hin, if_pos (Classical.not_not.mp c_61)])
          · refine G.lconst (v := 1) dX14_of_64 (by decide) ?_
            refine G.goto (tgt := 69) dX14_of_65 (by decide) ?_
            refine G.lreturn dX14_of_69 ?_
            refine ⟨_, rfl, (by rw [hid2, hid]), fun v hv => ?_⟩
            cases hv
            cases b with
            | true =>
              first
                | exact absurd c_24 Bool.false_ne_true
                | exact absurd c_24 (fun z => Bool.false_ne_true z.symm)
                | (rw [if_pos rfl, en3 p hp, if_neg hin])
                | (rw [if_pos rfl, en3 p hp, if_pos hin])
            | false =>
              first
                | exact absurd c_24 Bool.false_ne_true
                | exact absurd c_24 (fun z => Bool.false_ne_true z.symm)
                | (rw [if_neg Bool.false_ne_true, en4 p hp, if_neg hin])
                | (rw [if_neg Bool.false_ne_true, en4 p hp, if_pos hin, if_neg c_61])
                | (rw [if_neg Bool.false_ne_true, en4 p hp, if_pos hin, if_pos c_61])
                | (rw [if_neg Bool.false_ne_true, en4 p hp, if_pos hin, if_pos (Classical.not_not.mp c_61)])
        · refine G.aload_n0 dX14_of_27 ?_
          refine G.getfield (k := 2) fl_X14_3 (by assumption) rfl dX14_of_28 ?_
          refine G.xcallN (f' := fX0_books) 0 q1294 ck_X0_books (c_X0_books) dX14_of_31 (wA.k fun r_31 D_31 h_31 => ?_)
          obtain ⟨e_31, h_31⟩ := h_31; replace e_31 := e_31.symm; replace h_31 := h_31.symm; subst e_31; subst h_31
          refine G.aload_n0 dX14_of_34 ?_
          refine G.getfield (k := 1) fl_X14_19 (by assumption) rfl dX14_of_35 ?_
          refine G.xcall (f' := fX2_worth) 6 q1295 ck_X2_worth (c_worth hp) dX14_of_38 (wI.k fun r_38 D_38 h_38 => ?_)
          obtain ⟨e_38, h_38⟩ := h_38; replace e_38 := e_38.symm; replace h_38 := h_38.symm; subst e_38; subst h_38
          refine G.i2l dX14_of_41 rfl ?_
          refine G.goto (tgt := 69) dX14_of_42 (by decide) ?_
          refine G.lreturn dX14_of_69 ?_
          refine ⟨_, rfl, (by rw [hid2, hid]), fun v hv => ?_⟩
          cases hv
          cases b with
          | true =>
            first
              | exact absurd c_24 Bool.false_ne_true
              | exact absurd c_24 (fun z => Bool.false_ne_true z.symm)
              | (rw [if_pos rfl, en3 p hp, if_neg hin])
              | (rw [if_pos rfl, en3 p hp, if_pos hin])
          | false =>
            first
              | exact absurd c_24 Bool.false_ne_true
              | exact absurd c_24 (fun z => Bool.false_ne_true z.symm)
              | (rw [if_neg Bool.false_ne_true, en4 p hp, if_neg hin])
              | (rw [if_neg Bool.false_ne_true, en4 p hp, if_pos hin, if_neg c_61])
              | (rw [if_neg Bool.false_ne_true, en4 p hp, if_pos hin, if_pos c_61])
              | (rw [if_neg Bool.false_ne_true, en4 p hp, if_pos hin, if_pos (Classical.not_not.mp c_61)])
      · have hin : ¬ p < n := fun z => of_decide_eq_false c_11 (hpn.mpr z)
        refine G.ldc2 q1293 dX14_of_14 ?_
        refine G.goto (tgt := 69) dX14_of_17 (by decide) ?_
        refine G.lreturn dX14_of_69 ?_
        refine ⟨_, rfl, (by rw [hid2, hid]), fun v hv => ?_⟩
        cases hv
        cases b with
        | true =>
          first
            | exact absurd c_24 Bool.false_ne_true
            | exact absurd c_24 (fun z => Bool.false_ne_true z.symm)
            | (rw [if_pos rfl, en3 p hp, if_neg hin])
            | (rw [if_pos rfl, en3 p hp, if_pos hin])
        | false =>
          first
            | exact absurd c_24 Bool.false_ne_true
            | exact absurd c_24 (fun z => Bool.false_ne_true z.symm)
            | (rw [if_neg Bool.false_ne_true, en4 p hp, if_neg hin])
            | (rw [if_neg Bool.false_ne_true, en4 p hp, if_pos hin, if_neg c_61])
            | (rw [if_neg Bool.false_ne_true, en4 p hp, if_pos hin, if_pos c_61])
            | (rw [if_neg Bool.false_ne_true, en4 p hp, if_pos hin, if_pos (Classical.not_not.mp c_61)])
    · refine ⟨fun x hx => absurd (ciNe ha hx).1 (by decide), fun x hx => absurd (ciNe ha hx).1 (by decide), fun x hx => absurd (ciNe ha hx).1 (by decide), fun x hx => ?_, 15, _, ha, Or.inr (Or.inr (Or.inr rfl))⟩
      have hx2 := xbase (D := D) hB ha rfl
      refine Ct.of [some (.ref a), some (.ref (L.1 17)), none, none, none, none] rfl (Nat.le_of_ble_eq_true rfl) (show plainName RX15 = true by decide +kernel) rfl ?_
      refine G.aload_n0 dX15_of_0 ?_
      refine G.getfield (k := 0) fl_X15_7 (by assumption) rfl dX15_of_1 ?_
      refine G.aload_n1 dX15_of_4 ?_
      refine G.sum (d := 5 + f) rfl hB (ih b s1 D hs1 hB hE h0) cu_X15_20_X12_X12_of cu_X15_20_X13_X13_of cu_X15_20_X14_X14_of cu_X15_20_X15_X15_of dX15_of_5 (fun r1 H1 q1 => ?_) (Nat.le_of_ble_eq_true rfl) (jroom_of rfl rfl (by omega) (Nat.le_of_ble_eq_true rfl)) (jroom_of rfl rfl (by omega) (Nat.le_of_ble_eq_true rfl)) (jroom_of rfl rfl (by omega) (Nat.le_of_ble_eq_true rfl)) (jroom_of rfl rfl (by omega) (Nat.le_of_ble_eq_true rfl))
      cases e1 : s1 e with
      | none =>
        rw [e1] at q1
        obtain ⟨rfl, -⟩ := q1
        rw [zBj_n1 e1]
        have hb1 : (xs D 17 1 (bI (none : Option Int64).isNone)).1 17 1 = bI true := xs_1
        refine G.lstore_n2 dX15_of_8 ?_
        refine G.aload_n1 dX15_of_9 ?_
        refine G.xgeti 17 1 fl_X15_24 dX15_of_10 ?_
        rw [hb1]
        refine G.ifb_eq (tgt := 20) dX15_of_13 (by decide) (fun c_13 => ?_) (fun c_13 => ?_)
        · exact absurd c_13 (fun z => Bool.false_ne_true z.symm)
        · refine G.lconst (v := 0) dX15_of_16 (by decide) ?_
          refine G.goto (tgt := 28) dX15_of_17 (by decide) ?_
          refine G.lstore4 dX15_of_28 ?_
          refine G.aload_n1 dX15_of_30 ?_
          refine G.xgeti 17 1 fl_X15_24 dX15_of_31 ?_
          rw [hb1]
          refine G.ifb_eq (tgt := 39) dX15_of_34 (by decide) (fun c_34 => ?_) (fun c_34 => ?_)
          · exact absurd c_34 (fun z => Bool.false_ne_true z.symm)
          · refine G.lconst (v := 0) dX15_of_37 (by decide) ?_
            refine G.lreturn dX15_of_38 ?_
            exact ⟨_, rfl, rfl, fun v hv => by cases hv⟩
      | some p =>
        rw [e1] at q1
        obtain ⟨rfl, hv1⟩ := q1
        obtain rfl := hv1 p rfl
        rw [show (bI (some r1 : Option Int64).isNone) = bI false from rfl, hid]
        have hb0 : D.1 17 1 = bI false := h0
        refine G.lstore_n2 dX15_of_8 ?_
        refine G.aload_n1 dX15_of_9 ?_
        refine G.xgeti 17 1 fl_X15_24 dX15_of_10 ?_
        rw [hb0]
        refine G.ifb_eq (tgt := 20) dX15_of_13 (by decide) (fun c_13 => ?_) (fun c_13 => ?_)
        · refine G.aload_n0 dX15_of_20 ?_
          refine G.getfield (k := 1) fl_X15_17 (by assumption) rfl dX15_of_21 ?_
          refine G.aload_n1 dX15_of_24 ?_
          refine G.sum (d := 5 + f) rfl hB (ih c s2 D hs2 hB hE h0) cu_X15_20_X12_X12_of cu_X15_20_X13_X13_of cu_X15_20_X14_X14_of cu_X15_20_X15_X15_of dX15_of_25 (fun r2 H2 q2 => ?_) (Nat.le_of_ble_eq_true rfl) (jroom_of rfl rfl (by omega) (Nat.le_of_ble_eq_true rfl)) (jroom_of rfl rfl (by omega) (Nat.le_of_ble_eq_true rfl)) (jroom_of rfl rfl (by omega) (Nat.le_of_ble_eq_true rfl)) (jroom_of rfl rfl (by omega) (Nat.le_of_ble_eq_true rfl))
          cases e2 : s2 e with
          | none =>
            rw [e2] at q2
            obtain ⟨rfl, -⟩ := q2
            rw [zBj_n2 e2]
            have hb1 : (xs D 17 1 (bI (none : Option Int64).isNone)).1 17 1 = bI true := xs_1
            refine G.lstore4 dX15_of_28 ?_
            refine G.aload_n1 dX15_of_30 ?_
            refine G.xgeti 17 1 fl_X15_24 dX15_of_31 ?_
            rw [hb1]
            refine G.ifb_eq (tgt := 39) dX15_of_34 (by decide) (fun c_34 => ?_) (fun c_34 => ?_)
            · exact absurd c_34 (fun z => Bool.false_ne_true z.symm)
            · refine G.lconst (v := 0) dX15_of_37 (by decide) ?_
              refine G.lreturn dX15_of_38 ?_
              exact ⟨_, rfl, rfl, fun v hv => by cases hv⟩
          | some q =>
            rw [e2] at q2
            obtain ⟨rfl, hv2⟩ := q2
            obtain rfl := hv2 q rfl
            rw [show (bI (some r2 : Option Int64).isNone) = bI false from rfl, hid]
            rw [zBin_ev hk e1 e2]
            have k142 : ∀ w, (if nI k = nI 47 then (if r2 = 0 then none else some (r1 / r2)) else if nI k = nI 37 then (if r2 = 0 then none else some (r1 - r1 / r2 * r2)) else if nI k = nI 43 then zWithin (r1 + r2) else if nI k = nI 45 then zWithin (r1 - r2) else zWithin (r1 * r2)) = zWithin w → G E (fX15_of (5 + (f + 1))) (jFin E (fX15_of (5 + (f + 1))) (pJ fun r h' => h' = xov L (xs D 17 1 (bI (if nI k = nI 47 then (if r2 = 0 then none else some (r1 / r2)) else if nI k = nI 37 then (if r2 = 0 then none else some (r1 - r1 / r2 * r2)) else if nI k = nI 43 then zWithin (r1 + r2) else if nI k = nI 45 then zWithin (r1 - r2) else zWithin (r1 * r2)).isNone)) ph ∧ ∀ v, (if nI k = nI 47 then (if r2 = 0 then none else some (r1 / r2)) else if nI k = nI 37 then (if r2 = 0 then none else some (r1 - r1 / r2 * r2)) else if nI k = nI 43 then zWithin (r1 + r2) else if nI k = nI 45 then zWithin (r1 - r2) else zWithin (r1 * r2)) = some v → r = v) jNo) 142 [some (.ref a), some (.ref (L.1 17)), some (.long r1), none, some (.long r2), none] [.long w, .ref (L.1 17)] (xov L D ph) 0 0 := by
              intro w hw
              rw [hw]
              refine G.xcall (f' := fX3_within) 17 q1298 ck_X3_within (c_withinO h0) dX15_of_142 (wJ.k fun r_142 D_142 h_142 => ?_) (hroom := jroom_of rfl rfl (by omega) (Nat.le_of_ble_eq_true rfl))
              obtain ⟨rfl, g2⟩ := h_142
              refine G.lreturn dX15_of_145 ?_
              exact ⟨_, rfl, rfl, g2⟩
            refine G.lstore4 dX15_of_28 ?_
            refine G.aload_n1 dX15_of_30 ?_
            refine G.xgeti 17 1 fl_X15_24 dX15_of_31 ?_
            rw [hb0]
            refine G.ifb_eq (tgt := 39) dX15_of_34 (by decide) (fun c_34 => ?_) (fun c_34 => ?_)
            · refine G.aload_n0 dX15_of_39 ?_
              refine G.getfield (k := 2) fl_X15_13 (by assumption) rfl dX15_of_40 ?_
              refine G.bipush (v := nI 47) dX15_of_43 (by decide) ?_
              refine G.icmp_eq (tgt := 57) dX15_of_45 (by decide) (fun c_45 => ?_) (fun c_45 => ?_)
              · refine G.aload_n1 dX15_of_57 ?_
                refine G.lload4 dX15_of_58 ?_
                refine G.lconst (v := 0) dX15_of_60 (by decide) ?_
                refine G.lcmp dX15_of_61 ?_
                refine G.if_ne (tgt := 69) dX15_of_62 (by decide) (fun c_62 => ?_) (fun c_62 => ?_)
                · refine G.iconst (v := nI 0) dX15_of_69 (by decide) ?_
                  refine G.xputi 17 1 fp_X15_24 dX15_of_70 ?_ (hn := by first | rfl | exact bI_nar _) (hfit := by first | rfl | exact bI_fit _)
                  refine G.lload4 dX15_of_73 ?_
                  refine G.lconst (v := 0) dX15_of_75 (by decide) ?_
                  refine G.lcmp dX15_of_76 ?_
                  refine G.if_ne (tgt := 84) dX15_of_77 (by decide) (fun c_77 => ?_) (fun c_77 => ?_)
                  · refine G.aload_n0 dX15_of_84 ?_
                    refine G.getfield (k := 2) fl_X15_13 (xbase (D := xs D 17 1 _) hB ha rfl) rfl dX15_of_85 ?_
                    refine G.bipush (v := nI 47) dX15_of_88 (by decide) ?_
                    refine G.icmp_ne (tgt := 100) dX15_of_90 (by decide) (fun c_90 => ?_) (fun c_90 => ?_)
                    · refine G.lload_n2 dX15_of_100 ?_
                      refine G.lload4 dX15_of_101 ?_
                      refine G.lrem dX15_of_103 (fun z => c_77 (lg_eq.mpr z)) ?_
                      refine G.lreturn dX15_of_104 ?_
                      first
                      | exact absurd c_62 c_77
                      | exact absurd c_77 c_62
                      | exact absurd c_45 c_90
                      | exact absurd c_90 c_45
                      | (rw [if_pos c_45, if_pos (lg_eq.mp c_62)]
                         exact ⟨_, rfl, rfl, fun v hv => by cases hv⟩)
                      | (rw [if_neg c_45, if_pos c_54, if_pos (lg_eq.mp c_62)]
                         exact ⟨_, rfl, rfl, fun v hv => by cases hv⟩)
                      | (rw [if_pos c_45, if_neg (fun z => c_62 (lg_eq.mpr z))]
                         exact ⟨_, rfl, rfl, fun v hv => by cases hv; rfl⟩)
                      | (rw [if_neg c_45, if_pos c_54, if_neg (fun z => c_62 (lg_eq.mpr z))]
                         exact ⟨_, rfl, rfl, fun v hv => by cases hv; rfl⟩)
                    · refine G.lload_n2 dX15_of_93 ?_
                      refine G.lload4 dX15_of_94 ?_
                      refine G.ldiv dX15_of_96 (fun z => c_77 (lg_eq.mpr z)) ?_
                      refine G.goto (tgt := 104) dX15_of_97 (by decide) ?_
                      refine G.lreturn dX15_of_104 ?_
                      first
                      | exact absurd c_62 c_77
                      | exact absurd c_77 c_62
                      | exact absurd c_45 c_90
                      | exact absurd c_90 c_45
                      | (rw [if_pos c_45, if_pos (lg_eq.mp c_62)]
                         exact ⟨_, rfl, rfl, fun v hv => by cases hv⟩)
                      | (rw [if_neg c_45, if_pos c_54, if_pos (lg_eq.mp c_62)]
                         exact ⟨_, rfl, rfl, fun v hv => by cases hv⟩)
                      | (rw [if_pos c_45, if_neg (fun z => c_62 (lg_eq.mpr z))]
                         exact ⟨_, rfl, rfl, fun v hv => by cases hv; rfl⟩)
                      | (rw [if_neg c_45, if_pos c_54, if_neg (fun z => c_62 (lg_eq.mpr z))]
                         exact ⟨_, rfl, rfl, fun v hv => by cases hv; rfl⟩)
                  · refine G.lconst (v := 0) dX15_of_80 (by decide) ?_
                    refine G.goto (tgt := 104) dX15_of_81 (by decide) ?_
                    refine G.lreturn dX15_of_104 ?_
                    first
                    | exact absurd c_62 c_77
                    | exact absurd c_77 c_62
                    | exact absurd c_45 c_90
                    | exact absurd c_90 c_45
                    | (rw [if_pos c_45, if_pos (lg_eq.mp c_62)]
                       exact ⟨_, rfl, rfl, fun v hv => by cases hv⟩)
                    | (rw [if_neg c_45, if_pos c_54, if_pos (lg_eq.mp c_62)]
                       exact ⟨_, rfl, rfl, fun v hv => by cases hv⟩)
                    | (rw [if_pos c_45, if_neg (fun z => c_62 (lg_eq.mpr z))]
                       exact ⟨_, rfl, rfl, fun v hv => by cases hv; rfl⟩)
                    | (rw [if_neg c_45, if_pos c_54, if_neg (fun z => c_62 (lg_eq.mpr z))]
                       exact ⟨_, rfl, rfl, fun v hv => by cases hv; rfl⟩)
                · refine G.iconst (v := nI 1) dX15_of_65 (by decide) ?_
                  refine G.goto (tgt := 70) dX15_of_66 (by decide) ?_
                  refine G.xputi 17 1 fp_X15_24 dX15_of_70 ?_ (hn := by first | rfl | exact bI_nar _) (hfit := by first | rfl | exact bI_fit _)
                  refine G.lload4 dX15_of_73 ?_
                  refine G.lconst (v := 0) dX15_of_75 (by decide) ?_
                  refine G.lcmp dX15_of_76 ?_
                  refine G.if_ne (tgt := 84) dX15_of_77 (by decide) (fun c_77 => ?_) (fun c_77 => ?_)
                  · refine G.aload_n0 dX15_of_84 ?_
                    refine G.getfield (k := 2) fl_X15_13 (xbase (D := xs D 17 1 _) hB ha rfl) rfl dX15_of_85 ?_
                    refine G.bipush (v := nI 47) dX15_of_88 (by decide) ?_
                    refine G.icmp_ne (tgt := 100) dX15_of_90 (by decide) (fun c_90 => ?_) (fun c_90 => ?_)
                    · refine G.lload_n2 dX15_of_100 ?_
                      refine G.lload4 dX15_of_101 ?_
                      refine G.lrem dX15_of_103 (fun z => c_77 (lg_eq.mpr z)) ?_
                      refine G.lreturn dX15_of_104 ?_
                      first
                      | exact absurd c_62 c_77
                      | exact absurd c_77 c_62
                      | exact absurd c_45 c_90
                      | exact absurd c_90 c_45
                      | (rw [if_pos c_45, if_pos (lg_eq.mp c_62)]
                         exact ⟨_, rfl, rfl, fun v hv => by cases hv⟩)
                      | (rw [if_neg c_45, if_pos c_54, if_pos (lg_eq.mp c_62)]
                         exact ⟨_, rfl, rfl, fun v hv => by cases hv⟩)
                      | (rw [if_pos c_45, if_neg (fun z => c_62 (lg_eq.mpr z))]
                         exact ⟨_, rfl, rfl, fun v hv => by cases hv; rfl⟩)
                      | (rw [if_neg c_45, if_pos c_54, if_neg (fun z => c_62 (lg_eq.mpr z))]
                         exact ⟨_, rfl, rfl, fun v hv => by cases hv; rfl⟩)
                    · refine G.lload_n2 dX15_of_93 ?_
                      refine G.lload4 dX15_of_94 ?_
                      refine G.ldiv dX15_of_96 (fun z => c_77 (lg_eq.mpr z)) ?_
                      refine G.goto (tgt := 104) dX15_of_97 (by decide) ?_
                      refine G.lreturn dX15_of_104 ?_
                      first
                      | exact absurd c_62 c_77
                      | exact absurd c_77 c_62
                      | exact absurd c_45 c_90
                      | exact absurd c_90 c_45
                      | (rw [if_pos c_45, if_pos (lg_eq.mp c_62)]
                         exact ⟨_, rfl, rfl, fun v hv => by cases hv⟩)
                      | (rw [if_neg c_45, if_pos c_54, if_pos (lg_eq.mp c_62)]
                         exact ⟨_, rfl, rfl, fun v hv => by cases hv⟩)
                      | (rw [if_pos c_45, if_neg (fun z => c_62 (lg_eq.mpr z))]
                         exact ⟨_, rfl, rfl, fun v hv => by cases hv; rfl⟩)
                      | (rw [if_neg c_45, if_pos c_54, if_neg (fun z => c_62 (lg_eq.mpr z))]
                         exact ⟨_, rfl, rfl, fun v hv => by cases hv; rfl⟩)
                  · refine G.lconst (v := 0) dX15_of_80 (by decide) ?_
                    refine G.goto (tgt := 104) dX15_of_81 (by decide) ?_
                    refine G.lreturn dX15_of_104 ?_
                    first
                    | exact absurd c_62 c_77
                    | exact absurd c_77 c_62
                    | exact absurd c_45 c_90
                    | exact absurd c_90 c_45
                    | (rw [if_pos c_45, if_pos (lg_eq.mp c_62)]
                       exact ⟨_, rfl, rfl, fun v hv => by cases hv⟩)
                    | (rw [if_neg c_45, if_pos c_54, if_pos (lg_eq.mp c_62)]
                       exact ⟨_, rfl, rfl, fun v hv => by cases hv⟩)
                    | (rw [if_pos c_45, if_neg (fun z => c_62 (lg_eq.mpr z))]
                       exact ⟨_, rfl, rfl, fun v hv => by cases hv; rfl⟩)
                    | (rw [if_neg c_45, if_pos c_54, if_neg (fun z => c_62 (lg_eq.mpr z))]
                       exact ⟨_, rfl, rfl, fun v hv => by cases hv; rfl⟩)
              · refine G.aload_n0 dX15_of_48 ?_
                refine G.getfield (k := 2) fl_X15_13 (by assumption) rfl dX15_of_49 ?_
                refine G.bipush (v := nI 37) dX15_of_52 (by decide) ?_
                refine G.icmp_ne (tgt := 105) dX15_of_54 (by decide) (fun c_54 => ?_) (fun c_54 => ?_)
                · refine G.aload_n1 dX15_of_105 ?_
                  refine G.aload_n0 dX15_of_106 ?_
                  refine G.getfield (k := 2) fl_X15_13 (by assumption) rfl dX15_of_107 ?_
                  refine G.bipush (v := nI 43) dX15_of_110 (by decide) ?_
                  refine G.icmp_ne (tgt := 122) dX15_of_112 (by decide) (fun c_112 => ?_) (fun c_112 => ?_)
                  · refine G.aload_n0 dX15_of_122 ?_
                    refine G.getfield (k := 2) fl_X15_13 (by assumption) rfl dX15_of_123 ?_
                    refine G.bipush (v := nI 45) dX15_of_126 (by decide) ?_
                    refine G.icmp_ne (tgt := 138) dX15_of_128 (by decide) (fun c_128 => ?_) (fun c_128 => ?_)
                    · refine G.lload_n2 dX15_of_138 ?_
                      refine G.lload4 dX15_of_139 ?_
                      refine G.lmul dX15_of_141 ?_
                      first
                      | exact k142 _ (by rw [if_neg c_45, if_neg c_54, if_pos (Classical.not_not.mp c_112)])
                      | exact k142 _ (by rw [if_neg c_45, if_neg c_54, if_pos c_112])
                      | exact k142 _ (by rw [if_neg c_45, if_neg c_54, if_neg c_112, if_pos (Classical.not_not.mp c_128)])
                      | exact k142 _ (by rw [if_neg c_45, if_neg c_54, if_neg c_112, if_pos c_128])
                      | exact k142 _ (by rw [if_neg c_45, if_neg c_54, if_neg c_112, if_neg c_128])
                    · refine G.lload_n2 dX15_of_131 ?_
                      refine G.lload4 dX15_of_132 ?_
                      refine G.lsub dX15_of_134 ?_
                      refine G.goto (tgt := 142) dX15_of_135 (by decide) ?_
                      first
                      | exact k142 _ (by rw [if_neg c_45, if_neg c_54, if_pos (Classical.not_not.mp c_112)])
                      | exact k142 _ (by rw [if_neg c_45, if_neg c_54, if_pos c_112])
                      | exact k142 _ (by rw [if_neg c_45, if_neg c_54, if_neg c_112, if_pos (Classical.not_not.mp c_128)])
                      | exact k142 _ (by rw [if_neg c_45, if_neg c_54, if_neg c_112, if_pos c_128])
                      | exact k142 _ (by rw [if_neg c_45, if_neg c_54, if_neg c_112, if_neg c_128])
                  · refine G.lload_n2 dX15_of_115 ?_
                    refine G.lload4 dX15_of_116 ?_
                    refine G.ladd dX15_of_118 ?_
                    refine G.goto (tgt := 142) dX15_of_119 (by decide) ?_
                    first
                    | exact k142 _ (by rw [if_neg c_45, if_neg c_54, if_pos (Classical.not_not.mp c_112)])
                    | exact k142 _ (by rw [if_neg c_45, if_neg c_54, if_pos c_112])
                    | exact k142 _ (by rw [if_neg c_45, if_neg c_54, if_neg c_112, if_pos (Classical.not_not.mp c_128)])
                    | exact k142 _ (by rw [if_neg c_45, if_neg c_54, if_neg c_112, if_pos c_128])
                    | exact k142 _ (by rw [if_neg c_45, if_neg c_54, if_neg c_112, if_neg c_128])
                · refine G.aload_n1 dX15_of_57 ?_
                  refine G.lload4 dX15_of_58 ?_
                  refine G.lconst (v := 0) dX15_of_60 (by decide) ?_
                  refine G.lcmp dX15_of_61 ?_
                  refine G.if_ne (tgt := 69) dX15_of_62 (by decide) (fun c_62 => ?_) (fun c_62 => ?_)
                  · refine G.iconst (v := nI 0) dX15_of_69 (by decide) ?_
                    refine G.xputi 17 1 fp_X15_24 dX15_of_70 ?_ (hn := by first | rfl | exact bI_nar _) (hfit := by first | rfl | exact bI_fit _)
                    refine G.lload4 dX15_of_73 ?_
                    refine G.lconst (v := 0) dX15_of_75 (by decide) ?_
                    refine G.lcmp dX15_of_76 ?_
                    refine G.if_ne (tgt := 84) dX15_of_77 (by decide) (fun c_77 => ?_) (fun c_77 => ?_)
                    · refine G.aload_n0 dX15_of_84 ?_
                      refine G.getfield (k := 2) fl_X15_13 (xbase (D := xs D 17 1 _) hB ha rfl) rfl dX15_of_85 ?_
                      refine G.bipush (v := nI 47) dX15_of_88 (by decide) ?_
                      refine G.icmp_ne (tgt := 100) dX15_of_90 (by decide) (fun c_90 => ?_) (fun c_90 => ?_)
                      · refine G.lload_n2 dX15_of_100 ?_
                        refine G.lload4 dX15_of_101 ?_
                        refine G.lrem dX15_of_103 (fun z => c_77 (lg_eq.mpr z)) ?_
                        refine G.lreturn dX15_of_104 ?_
                        first
                        | exact absurd c_62 c_77
                        | exact absurd c_77 c_62
                        | exact absurd c_45 c_90
                        | exact absurd c_90 c_45
                        | (rw [if_pos c_45, if_pos (lg_eq.mp c_62)]
                           exact ⟨_, rfl, rfl, fun v hv => by cases hv⟩)
                        | (rw [if_neg c_45, if_pos c_54, if_pos (lg_eq.mp c_62)]
                           exact ⟨_, rfl, rfl, fun v hv => by cases hv⟩)
                        | (rw [if_pos c_45, if_neg (fun z => c_62 (lg_eq.mpr z))]
                           exact ⟨_, rfl, rfl, fun v hv => by cases hv; rfl⟩)
                        | (rw [if_neg c_45, if_pos c_54, if_neg (fun z => c_62 (lg_eq.mpr z))]
                           exact ⟨_, rfl, rfl, fun v hv => by cases hv; rfl⟩)
                      · refine G.lload_n2 dX15_of_93 ?_
                        refine G.lload4 dX15_of_94 ?_
                        refine G.ldiv dX15_of_96 (fun z => c_77 (lg_eq.mpr z)) ?_
                        refine G.goto (tgt := 104) dX15_of_97 (by decide) ?_
                        refine G.lreturn dX15_of_104 ?_
                        first
                        | exact absurd c_62 c_77
                        | exact absurd c_77 c_62
                        | exact absurd c_45 c_90
                        | exact absurd c_90 c_45
                        | (rw [if_pos c_45, if_pos (lg_eq.mp c_62)]
                           exact ⟨_, rfl, rfl, fun v hv => by cases hv⟩)
                        | (rw [if_neg c_45, if_pos c_54, if_pos (lg_eq.mp c_62)]
                           exact ⟨_, rfl, rfl, fun v hv => by cases hv⟩)
                        | (rw [if_pos c_45, if_neg (fun z => c_62 (lg_eq.mpr z))]
                           exact ⟨_, rfl, rfl, fun v hv => by cases hv; rfl⟩)
                        | (rw [if_neg c_45, if_pos c_54, if_neg (fun z => c_62 (lg_eq.mpr z))]
                           exact ⟨_, rfl, rfl, fun v hv => by cases hv; rfl⟩)
                    · refine G.lconst (v := 0) dX15_of_80 (by decide) ?_
                      refine G.goto (tgt := 104) dX15_of_81 (by decide) ?_
                      refine G.lreturn dX15_of_104 ?_
                      first
                      | exact absurd c_62 c_77
                      | exact absurd c_77 c_62
                      | exact absurd c_45 c_90
                      | exact absurd c_90 c_45
                      | (rw [if_pos c_45, if_pos (lg_eq.mp c_62)]
                         exact ⟨_, rfl, rfl, fun v hv => by cases hv⟩)
                      | (rw [if_neg c_45, if_pos c_54, if_pos (lg_eq.mp c_62)]
                         exact ⟨_, rfl, rfl, fun v hv => by cases hv⟩)
                      | (rw [if_pos c_45, if_neg (fun z => c_62 (lg_eq.mpr z))]
                         exact ⟨_, rfl, rfl, fun v hv => by cases hv; rfl⟩)
                      | (rw [if_neg c_45, if_pos c_54, if_neg (fun z => c_62 (lg_eq.mpr z))]
                         exact ⟨_, rfl, rfl, fun v hv => by cases hv; rfl⟩)
                  · refine G.iconst (v := nI 1) dX15_of_65 (by decide) ?_
                    refine G.goto (tgt := 70) dX15_of_66 (by decide) ?_
                    refine G.xputi 17 1 fp_X15_24 dX15_of_70 ?_ (hn := by first | rfl | exact bI_nar _) (hfit := by first | rfl | exact bI_fit _)
                    refine G.lload4 dX15_of_73 ?_
                    refine G.lconst (v := 0) dX15_of_75 (by decide) ?_
                    refine G.lcmp dX15_of_76 ?_
                    refine G.if_ne (tgt := 84) dX15_of_77 (by decide) (fun c_77 => ?_) (fun c_77 => ?_)
                    · refine G.aload_n0 dX15_of_84 ?_
                      refine G.getfield (k := 2) fl_X15_13 (xbase (D := xs D 17 1 _) hB ha rfl) rfl dX15_of_85 ?_
                      refine G.bipush (v := nI 47) dX15_of_88 (by decide) ?_
                      refine G.icmp_ne (tgt := 100) dX15_of_90 (by decide) (fun c_90 => ?_) (fun c_90 => ?_)
                      · refine G.lload_n2 dX15_of_100 ?_
                        refine G.lload4 dX15_of_101 ?_
                        refine G.lrem dX15_of_103 (fun z => c_77 (lg_eq.mpr z)) ?_
                        refine G.lreturn dX15_of_104 ?_
                        first
                        | exact absurd c_62 c_77
                        | exact absurd c_77 c_62
                        | exact absurd c_45 c_90
                        | exact absurd c_90 c_45
                        | (rw [if_pos c_45, if_pos (lg_eq.mp c_62)]
                           exact ⟨_, rfl, rfl, fun v hv => by cases hv⟩)
                        | (rw [if_neg c_45, if_pos c_54, if_pos (lg_eq.mp c_62)]
                           exact ⟨_, rfl, rfl, fun v hv => by cases hv⟩)
                        | (rw [if_pos c_45, if_neg (fun z => c_62 (lg_eq.mpr z))]
                           exact ⟨_, rfl, rfl, fun v hv => by cases hv; rfl⟩)
                        | (rw [if_neg c_45, if_pos c_54, if_neg (fun z => c_62 (lg_eq.mpr z))]
                           exact ⟨_, rfl, rfl, fun v hv => by cases hv; rfl⟩)
                      · refine G.lload_n2 dX15_of_93 ?_
                        refine G.lload4 dX15_of_94 ?_
                        refine G.ldiv dX15_of_96 (fun z => c_77 (lg_eq.mpr z)) ?_
                        refine G.goto (tgt := 104) dX15_of_97 (by decide) ?_
                        refine G.lreturn dX15_of_104 ?_
                        first
                        | exact absurd c_62 c_77
                        | exact absurd c_77 c_62
                        | exact absurd c_45 c_90
                        | exact absurd c_90 c_45
                        | (rw [if_pos c_45, if_pos (lg_eq.mp c_62)]
                           exact ⟨_, rfl, rfl, fun v hv => by cases hv⟩)
                        | (rw [if_neg c_45, if_pos c_54, if_pos (lg_eq.mp c_62)]
                           exact ⟨_, rfl, rfl, fun v hv => by cases hv⟩)
                        | (rw [if_pos c_45, if_neg (fun z => c_62 (lg_eq.mpr z))]
                           exact ⟨_, rfl, rfl, fun v hv => by cases hv; rfl⟩)
                        | (rw [if_neg c_45, if_pos c_54, if_neg (fun z => c_62 (lg_eq.mpr z))]
                           exact ⟨_, rfl, rfl, fun v hv => by cases hv; rfl⟩)
                    · refine G.lconst (v := 0) dX15_of_80 (by decide) ?_
                      refine G.goto (tgt := 104) dX15_of_81 (by decide) ?_
                      refine G.lreturn dX15_of_104 ?_
                      first
                      | exact absurd c_62 c_77
                      | exact absurd c_77 c_62
                      | exact absurd c_45 c_90
                      | exact absurd c_90 c_45
                      | (rw [if_pos c_45, if_pos (lg_eq.mp c_62)]
                         exact ⟨_, rfl, rfl, fun v hv => by cases hv⟩)
                      | (rw [if_neg c_45, if_pos c_54, if_pos (lg_eq.mp c_62)]
                         exact ⟨_, rfl, rfl, fun v hv => by cases hv⟩)
                      | (rw [if_pos c_45, if_neg (fun z => c_62 (lg_eq.mpr z))]
                         exact ⟨_, rfl, rfl, fun v hv => by cases hv; rfl⟩)
                      | (rw [if_neg c_45, if_pos c_54, if_neg (fun z => c_62 (lg_eq.mpr z))]
                         exact ⟨_, rfl, rfl, fun v hv => by cases hv; rfl⟩)
            · exact absurd c_34 Bool.false_ne_true
        · exact absurd c_13 Bool.false_ne_true
end TellO
