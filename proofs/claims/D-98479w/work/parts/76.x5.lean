/-! LITSTRANGERS TELLS: tests -/
theorem zRow_n {all : Bool} {t : Ts} {ts : List Ts} {e : En} (h : t e = none) : zRow all (t :: ts) e = none := by
  rw [zRow, h]
theorem zRow_s {all v : Bool} {t : Ts} {ts : List Ts} {e : En} (h : t e = some v) : zRow all (t :: ts) e = if v = all then zRow all ts e else some v := by
  rw [zRow, h]
/-- what a test's method tells -/
def tsQ (L : XL) (D : XD) (ph : HP) (kq : Nat) (o : Option Bool) (r : Int32) (h' : HP) : Prop := ∃ rb : Bool, r = bI rb ∧ h' = xov L (xs D kq 1 (bI o.isNone)) ph ∧ ∀ v, o = some v → rb = v
section TestA
variable {E : JE} {L : XL} {ph : HP} {e : En} {n : Nat}
theorem e_tsA : ∀ (f a : Nat) (t : Ts) (D : XD), rTs (L.1 0) false ph f a t → xdis L D ph → envA D e → D.1 15 1 = nI 0 → tsC E L D ph 15 (406 + f) a (tsQ L D ph 15 (t e)) := by
  intro f
  induction f with
  | zero => intro a t D h; exact h.elim
  | succ f ih =>
    intro a t D h hB hE h0
    have hid : xs D 15 1 (bI false) = D := xs_id h0
    have hb0 : D.1 15 1 = bI false := h0
    rw [rTs] at h
    rcases h with ⟨b, c, k, s1, s2, ha, hk, hs1, hs2, rfl⟩ | ⟨b, t1, ha, ht1, rfl⟩ | ⟨all, b, m, g, as, ts, ha, hb, hm, hlen, hg, hall, rfl⟩
    · refine ⟨fun x hx => ?_, fun x hx => absurd (ciNe ha hx).1 (by decide), fun x hx => absurd (ciNe ha hx).1 (by decide), 18, _, ha, Or.inl rfl⟩
      have hx2 := xbase (D := D) hB ha rfl
      refine Ct.of [some (.ref a), some (.ref (L.1 15)), none, none, none, none] rfl (Nat.le_of_ble_eq_true rfl) (show plainName RX18 = true by decide +kernel) rfl ?_
      refine G.aload_n0 dX18_of_0 ?_
      refine G.getfield (k := 0) fl_X18_7 (by assumption) rfl dX18_of_1 ?_
      refine G.aload_n1 dX18_of_4 ?_
      refine G.sum (d := 5 + 60) rfl hB (e_smA 60 b s1 D hs1 hB hE h0) cu_X18_20_X12_X12_of cu_X18_20_X13_X13_of cu_X18_20_X14_X14_of cu_X18_20_X15_X15_of dX18_of_5 (fun r1 H1 q1 => ?_) (Nat.le_of_ble_eq_true rfl) ⟨Nat.le_of_ble_eq_true rfl, Nat.le_of_ble_eq_true rfl⟩ ⟨Nat.le_of_ble_eq_true rfl, Nat.le_of_ble_eq_true rfl⟩ ⟨Nat.le_of_ble_eq_true rfl, Nat.le_of_ble_eq_true rfl⟩ ⟨Nat.le_of_ble_eq_true rfl, Nat.le_of_ble_eq_true rfl⟩
      cases e1 : s1 e with
      | none =>
        rw [e1] at q1
        obtain ⟨rfl, -⟩ := q1
        rw [zCj_n1 e1]
        have hb1 : (xs D 15 1 (bI (none : Option Int64).isNone)).1 15 1 = bI true := xs_1
        refine G.lstore_n2 dX18_of_8 ?_
        refine G.aload_n1 dX18_of_9 ?_
        refine G.xgeti 15 1 fl_X18_26 dX18_of_10 ?_
        rw [hb1]
        refine G.ifb_eq (tgt := 20) dX18_of_13 (by decide) (fun c_13 => ?_) (fun c_13 => ?_)
        · exact absurd c_13 (fun z => Bool.false_ne_true z.symm)
        · refine G.lconst (v := 0) dX18_of_16 (by decide) ?_
          refine G.goto (tgt := 28) dX18_of_17 (by decide) ?_
          refine G.lstore4 dX18_of_28 ?_
          refine G.aload_n1 dX18_of_30 ?_
          refine G.xgeti 15 1 fl_X18_26 dX18_of_31 ?_
          rw [hb1]
          refine G.ifb_ne (tgt := 86) dX18_of_34 (by decide) (fun c_34 => ?_) (fun c_34 => ?_)
          · refine G.iconst (v := nI 0) dX18_of_86 (by decide) ?_
            refine G.ireturn dX18_of_87 ?_ (hn := by first | rfl | exact bI_nar _)
            exact ⟨_, rfl, false, rfl, rfl, fun v hv => by cases hv⟩
          · exact absurd c_34 (fun z => Bool.false_ne_true z.symm)
      | some p =>
        rw [e1] at q1
        obtain ⟨rfl, hv1⟩ := q1
        obtain rfl := hv1 p rfl
        rw [show (bI (some r1 : Option Int64).isNone) = bI false from rfl, hid]
        refine G.lstore_n2 dX18_of_8 ?_
        refine G.aload_n1 dX18_of_9 ?_
        refine G.xgeti 15 1 fl_X18_26 dX18_of_10 ?_
        rw [hb0]
        refine G.ifb_eq (tgt := 20) dX18_of_13 (by decide) (fun c_13 => ?_) (fun c_13 => ?_)
        · refine G.aload_n0 dX18_of_20 ?_
          refine G.getfield (k := 1) fl_X18_17 (by assumption) rfl dX18_of_21 ?_
          refine G.aload_n1 dX18_of_24 ?_
          refine G.sum (d := 5 + 60) rfl hB (e_smA 60 c s2 D hs2 hB hE h0) cu_X18_20_X12_X12_of cu_X18_20_X13_X13_of cu_X18_20_X14_X14_of cu_X18_20_X15_X15_of dX18_of_25 (fun r2 H2 q2 => ?_) (Nat.le_of_ble_eq_true rfl) ⟨Nat.le_of_ble_eq_true rfl, Nat.le_of_ble_eq_true rfl⟩ ⟨Nat.le_of_ble_eq_true rfl, Nat.le_of_ble_eq_true rfl⟩ ⟨Nat.le_of_ble_eq_true rfl, Nat.le_of_ble_eq_true rfl⟩ ⟨Nat.le_of_ble_eq_true rfl, Nat.le_of_ble_eq_true rfl⟩
          cases e2 : s2 e with
          | none =>
            rw [e2] at q2
            obtain ⟨rfl, -⟩ := q2
            rw [zCj_n2 e2]
            have hb1 : (xs D 15 1 (bI (none : Option Int64).isNone)).1 15 1 = bI true := xs_1
            refine G.lstore4 dX18_of_28 ?_
            refine G.aload_n1 dX18_of_30 ?_
            refine G.xgeti 15 1 fl_X18_26 dX18_of_31 ?_
            rw [hb1]
            refine G.ifb_ne (tgt := 86) dX18_of_34 (by decide) (fun c_34 => ?_) (fun c_34 => ?_)
            · refine G.iconst (v := nI 0) dX18_of_86 (by decide) ?_
              refine G.ireturn dX18_of_87 ?_ (hn := by first | rfl | exact bI_nar _)
              exact ⟨_, rfl, false, rfl, rfl, fun v hv => by cases hv⟩
            · exact absurd c_34 (fun z => Bool.false_ne_true z.symm)
          | some q =>
            rw [e2] at q2
            obtain ⟨rfl, hv2⟩ := q2
            obtain rfl := hv2 q rfl
            rw [show (bI (some r2 : Option Int64).isNone) = bI false from rfl, hid]
            rw [zCmp_ev hk e1 e2]
            have hfin : ∀ (rb : Bool) (x : Option Bool), x = some rb → ∀ r, r = bI rb → tsQ L D ph 15 x r (xov L D ph) := by
              intro rb x hx r hr
              refine ⟨rb, hr, ?_, fun v hv => ?_⟩
              · rw [hx, show (bI (some rb : Option Bool).isNone) = bI false from rfl, hid]
              · rw [hx] at hv; cases hv; rfl
            refine G.lstore4 dX18_of_28 ?_
            refine G.aload_n1 dX18_of_30 ?_
            refine G.xgeti 15 1 fl_X18_26 dX18_of_31 ?_
            rw [hb0]
            refine G.ifb_ne (tgt := 86) dX18_of_34 (by decide) (fun c_34 => ?_) (fun c_34 => ?_)
            · exact absurd c_34 Bool.false_ne_true
            · refine G.aload_n0 dX18_of_37 ?_
              refine G.getfield (k := 2) fl_X18_13 (by assumption) rfl dX18_of_38 ?_
              refine G.bipush (v := nI 60) dX18_of_41 (by decide) ?_
              refine G.icmp_ne (tgt := 56) dX18_of_43 (by decide) (fun c_43 => ?_) (fun c_43 => ?_)
              · refine G.aload_n0 dX18_of_56 ?_
                refine G.getfield (k := 2) fl_X18_13 (by assumption) rfl dX18_of_57 ?_
                refine G.bipush (v := nI 62) dX18_of_60 (by decide) ?_
                refine G.icmp_ne (tgt := 75) dX18_of_62 (by decide) (fun c_62 => ?_) (fun c_62 => ?_)
                · refine G.lload_n2 dX18_of_75 ?_
                  refine G.lload4 dX18_of_76 ?_
                  refine G.lcmp dX18_of_78 ?_
                  refine G.if_ne (tgt := 86) dX18_of_79 (by decide) (fun c_79 => ?_) (fun c_79 => ?_)
                  · refine G.iconst (v := nI 0) dX18_of_86 (by decide) ?_
                    refine G.ireturn dX18_of_87 ?_ (hn := by first | rfl | exact bI_nar _)
                    first
                    | (refine ⟨_, rfl, hfin true _ ?_ _ rfl⟩
                       rw [if_pos c_43, decide_eq_true (lg_lt.mp (Int32.not_le.mp c_50))])
                    | (refine ⟨_, rfl, hfin false _ ?_ _ rfl⟩
                       rw [if_pos c_43, decide_eq_false (fun z => absurd (lg_lt.mpr z) (Int32.not_lt.mpr c_50))])
                    | (refine ⟨_, rfl, hfin true _ ?_ _ rfl⟩
                       rw [if_neg c_43, if_pos c_62, decide_eq_true (lg_gt.mp (Int32.not_le.mp c_69))])
                    | (refine ⟨_, rfl, hfin false _ ?_ _ rfl⟩
                       rw [if_neg c_43, if_pos c_62, decide_eq_false (fun z => absurd (lg_gt.mpr z) (Int32.not_lt.mpr c_69))])
                    | (refine ⟨_, rfl, hfin false _ ?_ _ rfl⟩
                       rw [if_neg c_43, if_neg c_62, decide_eq_false (fun z => c_79 (lg_eq.mpr z))])
                    | (refine ⟨_, rfl, hfin true _ ?_ _ rfl⟩
                       rw [if_neg c_43, if_neg c_62, decide_eq_true (lg_eq.mp c_79)])
                  · refine G.iconst (v := nI 1) dX18_of_82 (by decide) ?_
                    refine G.goto (tgt := 87) dX18_of_83 (by decide) ?_
                    refine G.ireturn dX18_of_87 ?_ (hn := by first | rfl | exact bI_nar _)
                    first
                    | (refine ⟨_, rfl, hfin true _ ?_ _ rfl⟩
                       rw [if_pos c_43, decide_eq_true (lg_lt.mp (Int32.not_le.mp c_50))])
                    | (refine ⟨_, rfl, hfin false _ ?_ _ rfl⟩
                       rw [if_pos c_43, decide_eq_false (fun z => absurd (lg_lt.mpr z) (Int32.not_lt.mpr c_50))])
                    | (refine ⟨_, rfl, hfin true _ ?_ _ rfl⟩
                       rw [if_neg c_43, if_pos c_62, decide_eq_true (lg_gt.mp (Int32.not_le.mp c_69))])
                    | (refine ⟨_, rfl, hfin false _ ?_ _ rfl⟩
                       rw [if_neg c_43, if_pos c_62, decide_eq_false (fun z => absurd (lg_gt.mpr z) (Int32.not_lt.mpr c_69))])
                    | (refine ⟨_, rfl, hfin false _ ?_ _ rfl⟩
                       rw [if_neg c_43, if_neg c_62, decide_eq_false (fun z => c_79 (lg_eq.mpr z))])
                    | (refine ⟨_, rfl, hfin true _ ?_ _ rfl⟩
                       rw [if_neg c_43, if_neg c_62, decide_eq_true (lg_eq.mp c_79)])
                · refine G.lload_n2 dX18_of_65 ?_
                  refine G.lload4 dX18_of_66 ?_
                  refine G.lcmp dX18_of_68 ?_
                  refine G.if_le (tgt := 86) dX18_of_69 (by decide) (fun c_69 => ?_) (fun c_69 => ?_)
                  · refine G.iconst (v := nI 0) dX18_of_86 (by decide) ?_
                    refine G.ireturn dX18_of_87 ?_ (hn := by first | rfl | exact bI_nar _)
                    first
                    | (refine ⟨_, rfl, hfin true _ ?_ _ rfl⟩
                       rw [if_pos c_43, decide_eq_true (lg_lt.mp (Int32.not_le.mp c_50))])
                    | (refine ⟨_, rfl, hfin false _ ?_ _ rfl⟩
                       rw [if_pos c_43, decide_eq_false (fun z => absurd (lg_lt.mpr z) (Int32.not_lt.mpr c_50))])
                    | (refine ⟨_, rfl, hfin true _ ?_ _ rfl⟩
                       rw [if_neg c_43, if_pos c_62, decide_eq_true (lg_gt.mp (Int32.not_le.mp c_69))])
                    | (refine ⟨_, rfl, hfin false _ ?_ _ rfl⟩
                       rw [if_neg c_43, if_pos c_62, decide_eq_false (fun z => absurd (lg_gt.mpr z) (Int32.not_lt.mpr c_69))])
                    | (refine ⟨_, rfl, hfin false _ ?_ _ rfl⟩
                       rw [if_neg c_43, if_neg c_62, decide_eq_false (fun z => c_79 (lg_eq.mpr z))])
                    | (refine ⟨_, rfl, hfin true _ ?_ _ rfl⟩
                       rw [if_neg c_43, if_neg c_62, decide_eq_true (lg_eq.mp c_79)])
                  · refine G.goto (tgt := 82) dX18_of_72 (by decide) ?_
                    refine G.iconst (v := nI 1) dX18_of_82 (by decide) ?_
                    refine G.goto (tgt := 87) dX18_of_83 (by decide) ?_
                    refine G.ireturn dX18_of_87 ?_ (hn := by first | rfl | exact bI_nar _)
                    first
                    | (refine ⟨_, rfl, hfin true _ ?_ _ rfl⟩
                       rw [if_pos c_43, decide_eq_true (lg_lt.mp (Int32.not_le.mp c_50))])
                    | (refine ⟨_, rfl, hfin false _ ?_ _ rfl⟩
                       rw [if_pos c_43, decide_eq_false (fun z => absurd (lg_lt.mpr z) (Int32.not_lt.mpr c_50))])
                    | (refine ⟨_, rfl, hfin true _ ?_ _ rfl⟩
                       rw [if_neg c_43, if_pos c_62, decide_eq_true (lg_gt.mp (Int32.not_le.mp c_69))])
                    | (refine ⟨_, rfl, hfin false _ ?_ _ rfl⟩
                       rw [if_neg c_43, if_pos c_62, decide_eq_false (fun z => absurd (lg_gt.mpr z) (Int32.not_lt.mpr c_69))])
                    | (refine ⟨_, rfl, hfin false _ ?_ _ rfl⟩
                       rw [if_neg c_43, if_neg c_62, decide_eq_false (fun z => c_79 (lg_eq.mpr z))])
                    | (refine ⟨_, rfl, hfin true _ ?_ _ rfl⟩
                       rw [if_neg c_43, if_neg c_62, decide_eq_true (lg_eq.mp c_79)])
              · refine G.lload_n2 dX18_of_46 ?_
                refine G.lload4 dX18_of_47 ?_
                refine G.lcmp dX18_of_49 ?_
                refine G.if_ge (tgt := 86) dX18_of_50 (by decide) (fun c_50 => ?_) (fun c_50 => ?_)
                · refine G.iconst (v := nI 0) dX18_of_86 (by decide) ?_
                  refine G.ireturn dX18_of_87 ?_ (hn := by first | rfl | exact bI_nar _)
                  first
                  | (refine ⟨_, rfl, hfin true _ ?_ _ rfl⟩
                     rw [if_pos c_43, decide_eq_true (lg_lt.mp (Int32.not_le.mp c_50))])
                  | (refine ⟨_, rfl, hfin false _ ?_ _ rfl⟩
                     rw [if_pos c_43, decide_eq_false (fun z => absurd (lg_lt.mpr z) (Int32.not_lt.mpr c_50))])
                  | (refine ⟨_, rfl, hfin true _ ?_ _ rfl⟩
                     rw [if_neg c_43, if_pos c_62, decide_eq_true (lg_gt.mp (Int32.not_le.mp c_69))])
                  | (refine ⟨_, rfl, hfin false _ ?_ _ rfl⟩
                     rw [if_neg c_43, if_pos c_62, decide_eq_false (fun z => absurd (lg_gt.mpr z) (Int32.not_lt.mpr c_69))])
                  | (refine ⟨_, rfl, hfin false _ ?_ _ rfl⟩
                     rw [if_neg c_43, if_neg c_62, decide_eq_false (fun z => c_79 (lg_eq.mpr z))])
                  | (refine ⟨_, rfl, hfin true _ ?_ _ rfl⟩
                     rw [if_neg c_43, if_neg c_62, decide_eq_true (lg_eq.mp c_79)])
                · refine G.goto (tgt := 82) dX18_of_53 (by decide) ?_
                  refine G.iconst (v := nI 1) dX18_of_82 (by decide) ?_
                  refine G.goto (tgt := 87) dX18_of_83 (by decide) ?_
                  refine G.ireturn dX18_of_87 ?_ (hn := by first | rfl | exact bI_nar _)
                  first
                  | (refine ⟨_, rfl, hfin true _ ?_ _ rfl⟩
                     rw [if_pos c_43, decide_eq_true (lg_lt.mp (Int32.not_le.mp c_50))])
                  | (refine ⟨_, rfl, hfin false _ ?_ _ rfl⟩
                     rw [if_pos c_43, decide_eq_false (fun z => absurd (lg_lt.mpr z) (Int32.not_lt.mpr c_50))])
                  | (refine ⟨_, rfl, hfin true _ ?_ _ rfl⟩
                     rw [if_neg c_43, if_pos c_62, decide_eq_true (lg_gt.mp (Int32.not_le.mp c_69))])
                  | (refine ⟨_, rfl, hfin false _ ?_ _ rfl⟩
                     rw [if_neg c_43, if_pos c_62, decide_eq_false (fun z => absurd (lg_gt.mpr z) (Int32.not_lt.mpr c_69))])
                  | (refine ⟨_, rfl, hfin false _ ?_ _ rfl⟩
                     rw [if_neg c_43, if_neg c_62, decide_eq_false (fun z => c_79 (lg_eq.mpr z))])
                  | (refine ⟨_, rfl, hfin true _ ?_ _ rfl⟩
                     rw [if_neg c_43, if_neg c_62, decide_eq_true (lg_eq.mp c_79)])
        · exact absurd c_13 Bool.false_ne_true
    · refine ⟨fun x hx => absurd (ciNe ha hx).1 (by decide), fun x hx => ?_, fun x hx => absurd (ciNe ha hx).1 (by decide), 19, _, ha, Or.inr (Or.inl rfl)⟩
      have hx2 := xbase (D := D) hB ha rfl
      refine Ct.of [some (.ref a), some (.ref (L.1 15))] rfl (Nat.le_of_ble_eq_true rfl) (show plainName RX19 = true by decide +kernel) rfl ?_
      refine G.aload_n0 dX19_of_0 ?_
      refine G.getfield (k := 0) fl_X19_7 (by assumption) rfl dX19_of_1 ?_
      refine G.aload_n1 dX19_of_4 ?_
      refine G.test (d := 406 + f) hB (ih b t1 D ht1 hB hE h0) cu_X19_13_X18_X18_of cu_X19_13_X19_X19_of cu_X19_13_X20_X20_of dX19_of_5 (fun r1 H1 q1 => ?_) (Nat.le_of_ble_eq_true rfl) (jroom_of rfl rfl (by omega) (Nat.le_of_ble_eq_true rfl)) (jroom_of rfl rfl (by omega) (Nat.le_of_ble_eq_true rfl)) (jroom_of rfl rfl (by omega) (Nat.le_of_ble_eq_true rfl))
      obtain ⟨rb, rfl, rfl, hv⟩ := q1
      refine G.ifb_ne (tgt := 22) dX19_of_8 (by decide) (fun c_8 => ?_) (fun c_8 => ?_)
      · refine G.iconst (v := nI 0) dX19_of_22 (by decide) ?_
        refine G.ireturn dX19_of_23 ?_ (hn := by first | rfl | exact bI_nar _)
        cases e1 : t1 e with
        | none =>
          have hz : zNot true t1 e = none := by unfold zNot; rw [e1]
          rw [hz]
          first
            | exact ⟨_, rfl, false, rfl, rfl, fun v hv => by cases hv⟩
            | exact ⟨_, rfl, true, rfl, rfl, fun v hv => by cases hv⟩
        | some v =>
          obtain rfl : rb = v := hv v e1
          have hz : zNot true t1 e = some (rb != true) := by unfold zNot; rw [e1]
          rw [hz]
          first
            | (rw [e1] at c_15
               exact absurd c_15 Bool.false_ne_true)
            | (subst c_8
               exact ⟨_, rfl, false, rfl, rfl, fun w hw => by cases hw; rfl⟩)
            | (subst c_8
               exact ⟨_, rfl, true, rfl, rfl, fun w hw => by cases hw; rfl⟩)
      · refine G.aload_n1 dX19_of_11 ?_
        refine G.xgeti 15 1 fl_X19_17 dX19_of_12 ?_
        rw [xs_1]
        refine G.ifb_ne (tgt := 22) dX19_of_15 (by decide) (fun c_15 => ?_) (fun c_15 => ?_)
        · refine G.iconst (v := nI 0) dX19_of_22 (by decide) ?_
          refine G.ireturn dX19_of_23 ?_ (hn := by first | rfl | exact bI_nar _)
          cases e1 : t1 e with
          | none =>
            have hz : zNot true t1 e = none := by unfold zNot; rw [e1]
            rw [hz]
            first
              | exact ⟨_, rfl, false, rfl, rfl, fun v hv => by cases hv⟩
              | exact ⟨_, rfl, true, rfl, rfl, fun v hv => by cases hv⟩
          | some v =>
            obtain rfl : rb = v := hv v e1
            have hz : zNot true t1 e = some (rb != true) := by unfold zNot; rw [e1]
            rw [hz]
            first
              | (rw [e1] at c_15
                 exact absurd c_15 Bool.false_ne_true)
              | (subst c_8
                 exact ⟨_, rfl, false, rfl, rfl, fun w hw => by cases hw; rfl⟩)
              | (subst c_8
                 exact ⟨_, rfl, true, rfl, rfl, fun w hw => by cases hw; rfl⟩)
        · refine G.iconst (v := nI 1) dX19_of_18 (by decide) ?_
          refine G.goto (tgt := 23) dX19_of_19 (by decide) ?_
          refine G.ireturn dX19_of_23 ?_ (hn := by first | rfl | exact bI_nar _)
          cases e1 : t1 e with
          | none =>
            have hz : zNot true t1 e = none := by unfold zNot; rw [e1]
            rw [hz]
            first
              | exact ⟨_, rfl, false, rfl, rfl, fun v hv => by cases hv⟩
              | exact ⟨_, rfl, true, rfl, rfl, fun v hv => by cases hv⟩
          | some v =>
            obtain rfl : rb = v := hv v e1
            have hz : zNot true t1 e = some (rb != true) := by unfold zNot; rw [e1]
            rw [hz]
            first
              | (rw [e1] at c_15
                 exact absurd c_15 Bool.false_ne_true)
              | (subst c_8
                 exact ⟨_, rfl, false, rfl, rfl, fun w hw => by cases hw; rfl⟩)
              | (subst c_8
                 exact ⟨_, rfl, true, rfl, rfl, fun w hw => by cases hw; rfl⟩)
    · refine ⟨fun x hx => absurd (ciNe ha hx).1 (by decide), fun x hx => absurd (ciNe ha hx).1 (by decide), fun x hx => ?_, 20, _, ha, Or.inr (Or.inr rfl)⟩
      have hx2 := xbase (D := D) hB ha rfl
      have hx3 := xbase (D := D) hB hb rfl
      have loop : ∀ (as' : List Nat) (ts' : List Ts) (i : Nat) (a5 a6 : Option Value), i + as'.length = m → (∀ j (h : j < as'.length), g (i + j) = some as'[j]) → rAll (rTs (L.1 0) false ph f) as' ts' → G E (fX20_of (406 + (f + 1))) (jFin E (fX20_of (406 + (f + 1))) (pI (tsQ L D ph 15 (zRow all ts' e))) jNo) 11 [some (.ref a), some (.ref (L.1 15)), some (.ref b), some (.int (nI m)), some (.int (nI i)), a5, a6] [] (xov L D ph) 0 0 := by
        intro as'
        induction as' with
        | nil =>
          intro ts' i a5 a6 hi hg' hr
          cases ts' with
          | cons t ts => exact hr.elim
          | nil =>
            rw [List.length_nil] at hi
            refine G.iload4 dX20_of_11 ?_
            refine G.iload_n3 dX20_of_13 ?_
            refine G.icmp_ge (tgt := 68) dX20_of_14 (by decide) (fun c_14 => ?_) (fun c_14 => ?_)
            · refine G.aload_n0 dX20_of_68 ?_
              refine G.getfield (k := 0) fl_X20_7 (by assumption) rfl dX20_of_69 ?_
              refine G.ireturn dX20_of_72 ?_ (hn := by first | rfl | exact bI_nar _)
              exact ⟨_, rfl, all, rfl, (by rw [show zRow all [] e = some all from rfl, show (bI (some all : Option Bool).isNone) = bI false from rfl, hid]), fun v hv => by cases hv; rfl⟩
            · exact absurd (nI_leI (by omega) (by omega) |>.mpr (by omega)) c_14
        | cons a' as' ihl =>
          intro ts' i a5 a6 hi hg' hr
          rw [List.length_cons] at hi
          cases ts' with
          | nil => exact hr.elim
          | cons t ts =>
            obtain ⟨hr1, hr2⟩ := hr
            have hg0 : g i = some a' := hg' 0 (by rw [List.length_cons]; omega)
            refine G.iload4 dX20_of_11 ?_
            refine G.iload_n3 dX20_of_13 ?_
            refine G.icmp_ge (tgt := 68) dX20_of_14 (by decide) (fun c_14 => ?_) (fun c_14 => ?_)
            · exact absurd ((nI_leI (by omega) (by omega)).mp c_14) (by omega)
            · refine G.aload_n2 dX20_of_17 ?_
              refine G.iload4 dX20_of_18 ?_
              refine G.aaload i hx3 dX20_of_20 rfl (by omega) (by omega) ?_
              rw [hg0]
              refine G.astore5 dX20_of_21 ?_
              refine G.aload5 dX20_of_23 ?_
              refine G.aload_n1 dX20_of_25 ?_
              refine G.test (d := 406 + f) hB (ih a' t D hr1 hB hE h0) cu_X20_17_X18_X18_of cu_X20_17_X19_X19_of cu_X20_17_X20_X20_of dX20_of_26 (fun r1 H1 q1 => ?_) (Nat.le_of_ble_eq_true rfl) (jroom_of rfl rfl (by omega) (Nat.le_of_ble_eq_true rfl)) (jroom_of rfl rfl (by omega) (Nat.le_of_ble_eq_true rfl)) (jroom_of rfl rfl (by omega) (Nat.le_of_ble_eq_true rfl))
              obtain ⟨rb, rfl, rfl, hv⟩ := q1
              cases e1 : t e with
              | none =>
                rw [zRow_n e1]
                have hb1 : (xs D 15 1 (bI (none : Option Bool).isNone)).1 15 1 = bI true := xs_1
                refine G.istore6 dX20_of_29 ?_
                refine G.aload_n1 dX20_of_31 ?_
                refine G.xgeti 15 1 fl_X20_21 dX20_of_32 ?_
                rw [hb1]
                refine G.ifb_eq (tgt := 40) dX20_of_35 (by decide) (fun c_35 => ?_) (fun c_35 => ?_)
                · exact absurd c_35 (fun z => Bool.false_ne_true z.symm)
                · refine G.iconst (v := nI 0) dX20_of_38 (by decide) ?_
                  refine G.ireturn dX20_of_39 ?_ (hn := by first | rfl | exact bI_nar _)
                  exact ⟨_, rfl, false, rfl, rfl, fun v hv => by cases hv⟩
              | some v =>
                obtain rfl : rb = v := hv v e1
                rw [zRow_s e1, show (bI (some rb : Option Bool).isNone) = bI false from rfl, hid]
                refine G.istore6 dX20_of_29 ?_
                refine G.aload_n1 dX20_of_31 ?_
                refine G.xgeti 15 1 fl_X20_21 dX20_of_32 ?_
                rw [hb0]
                refine G.ifb_eq (tgt := 40) dX20_of_35 (by decide) (fun c_35 => ?_) (fun c_35 => ?_)
                · refine G.iload6 dX20_of_40 ?_
                  refine G.aload_n0 dX20_of_42 ?_
                  refine G.getfield (k := 0) fl_X20_7 (by assumption) rfl dX20_of_43 ?_
                  refine G.icmp_eq (tgt := 62) dX20_of_46 (by decide) (fun c_46 => ?_) (fun c_46 => ?_)
                  · have hq : rb = all := bI_inj.mp c_46
                    rw [if_pos hq]
                    refine G.iinc4 dX20_of_62 ?_
                    try rw [show ∀ a : Nat, nI a + Int32.ofInt 1 = nI (a + 1) from fun a => nI_add a 1]
                    refine G.goto (tgt := 11) dX20_of_65 (by decide) ?_
                    exact ihl ts (i + 1) _ _ (by omega) (fun j hj => by
                      have := hg' (j + 1) (by rw [List.length_cons]; omega)
                      rw [show i + (j + 1) = i + 1 + j from by omega] at this
                      exact this) hr2
                  · have hq : ¬ rb = all := fun z => c_46 (congrArg bI z)
                    rw [if_neg hq]
                    refine G.aload_n0 dX20_of_49 ?_
                    refine G.getfield (k := 0) fl_X20_7 (by assumption) rfl dX20_of_50 ?_
                    refine G.ifb_ne (tgt := 60) dX20_of_53 (by decide) (fun c_53 => ?_) (fun c_53 => ?_)
                    · refine G.iconst (v := nI 0) dX20_of_60 (by decide) ?_
                      refine G.ireturn dX20_of_61 ?_ (hn := by first | rfl | exact bI_nar _)
                      have hn : rb = !all := by
                        cases rb <;> cases all <;> first | rfl | exact absurd rfl hq
                      first
                        | (subst c_53
                           exact ⟨_, rfl, rb, (by rw [hn]; rfl), (by rw [show (bI (some rb : Option Bool).isNone) = bI false from rfl, hid]), fun v hv => by cases hv; rfl⟩)
                    · refine G.iconst (v := nI 1) dX20_of_56 (by decide) ?_
                      refine G.goto (tgt := 61) dX20_of_57 (by decide) ?_
                      refine G.ireturn dX20_of_61 ?_ (hn := by first | rfl | exact bI_nar _)
                      have hn : rb = !all := by
                        cases rb <;> cases all <;> first | rfl | exact absurd rfl hq
                      first
                        | (subst c_53
                           exact ⟨_, rfl, rb, (by rw [hn]; rfl), (by rw [show (bI (some rb : Option Bool).isNone) = bI false from rfl, hid]), fun v hv => by cases hv; rfl⟩)
                · exact absurd c_35 Bool.false_ne_true
      refine Ct.of [some (.ref a), some (.ref (L.1 15)), none, none, none, none, none] rfl (Nat.le_of_ble_eq_true rfl) (show plainName RX20 = true by decide +kernel) rfl ?_
      refine G.aload_n0 dX20_of_0 ?_
      refine G.getfield (k := 1) fl_X20_13 (by assumption) rfl dX20_of_1 ?_
      refine G.astore_n2 dX20_of_4 ?_
      refine G.aload_n2 dX20_of_5 ?_
      refine G.arraylength hx3 dX20_of_6 rfl ?_
      refine G.istore_n3 dX20_of_7 ?_
      refine G.iconst (v := nI 0) dX20_of_8 (by decide) ?_
      refine G.istore4 dX20_of_9 ?_
      exact loop as ts 0 none none (by omega) (fun j hj => by rw [Nat.zero_add]; exact hg j hj) hall
end TestA
section TestO
variable {E : JE} {L : XL} {ph : HP} {e : En} {n : Nat}
theorem e_tsO : ∀ (f a : Nat) (t : Ts) (D : XD), rTs (L.1 0) true ph f a t → xdis L D ph → envO n D e → D.1 17 1 = nI 0 → tsC E L D ph 17 (406 + f) a (tsQ L D ph 17 (t e)) := by
  intro f
  induction f with
  | zero => intro a t D h; exact h.elim
  | succ f ih =>
    intro a t D h hB hE h0
    have hid : xs D 17 1 (bI false) = D := xs_id h0
    have hb0 : D.1 17 1 = bI false := h0
    rw [rTs] at h
    rcases h with ⟨b, c, k, s1, s2, ha, hk, hs1, hs2, rfl⟩ | ⟨b, t1, ha, ht1, rfl⟩ | ⟨all, b, m, g, as, ts, ha, hb, hm, hlen, hg, hall, rfl⟩
    · refine ⟨fun x hx => ?_, fun x hx => absurd (ciNe ha hx).1 (by decide), fun x hx => absurd (ciNe ha hx).1 (by decide), 18, _, ha, Or.inl rfl⟩
      have hx2 := xbase (D := D) hB ha rfl
      refine Ct.of [some (.ref a), some (.ref (L.1 17)), none, none, none, none] rfl (Nat.le_of_ble_eq_true rfl) (show plainName RX18 = true by decide +kernel) rfl ?_
      refine G.aload_n0 dX18_of_0 ?_
      refine G.getfield (k := 0) fl_X18_7 (by assumption) rfl dX18_of_1 ?_
      refine G.aload_n1 dX18_of_4 ?_
      refine G.sum (d := 5 + 60) rfl hB (e_smO 60 b s1 D hs1 hB hE h0) cu_X18_20_X12_X12_of cu_X18_20_X13_X13_of cu_X18_20_X14_X14_of cu_X18_20_X15_X15_of dX18_of_5 (fun r1 H1 q1 => ?_) (Nat.le_of_ble_eq_true rfl) ⟨Nat.le_of_ble_eq_true rfl, Nat.le_of_ble_eq_true rfl⟩ ⟨Nat.le_of_ble_eq_true rfl, Nat.le_of_ble_eq_true rfl⟩ ⟨Nat.le_of_ble_eq_true rfl, Nat.le_of_ble_eq_true rfl⟩ ⟨Nat.le_of_ble_eq_true rfl, Nat.le_of_ble_eq_true rfl⟩
      cases e1 : s1 e with
      | none =>
        rw [e1] at q1
        obtain ⟨rfl, -⟩ := q1
        rw [zCj_n1 e1]
        have hb1 : (xs D 17 1 (bI (none : Option Int64).isNone)).1 17 1 = bI true := xs_1
        refine G.lstore_n2 dX18_of_8 ?_
        refine G.aload_n1 dX18_of_9 ?_
        refine G.xgeti 17 1 fl_X18_26 dX18_of_10 ?_
        rw [hb1]
        refine G.ifb_eq (tgt := 20) dX18_of_13 (by decide) (fun c_13 => ?_) (fun c_13 => ?_)
        · exact absurd c_13 (fun z => Bool.false_ne_true z.symm)
        · refine G.lconst (v := 0) dX18_of_16 (by decide) ?_
          refine G.goto (tgt := 28) dX18_of_17 (by decide) ?_
          refine G.lstore4 dX18_of_28 ?_
          refine G.aload_n1 dX18_of_30 ?_
          refine G.xgeti 17 1 fl_X18_26 dX18_of_31 ?_
          rw [hb1]
          refine G.ifb_ne (tgt := 86) dX18_of_34 (by decide) (fun c_34 => ?_) (fun c_34 => ?_)
          · refine G.iconst (v := nI 0) dX18_of_86 (by decide) ?_
            refine G.ireturn dX18_of_87 ?_ (hn := by first | rfl | exact bI_nar _)
            exact ⟨_, rfl, false, rfl, rfl, fun v hv => by cases hv⟩
          · exact absurd c_34 (fun z => Bool.false_ne_true z.symm)
      | some p =>
        rw [e1] at q1
        obtain ⟨rfl, hv1⟩ := q1
        obtain rfl := hv1 p rfl
        rw [show (bI (some r1 : Option Int64).isNone) = bI false from rfl, hid]
        refine G.lstore_n2 dX18_of_8 ?_
        refine G.aload_n1 dX18_of_9 ?_
        refine G.xgeti 17 1 fl_X18_26 dX18_of_10 ?_
        rw [hb0]
        refine G.ifb_eq (tgt := 20) dX18_of_13 (by decide) (fun c_13 => ?_) (fun c_13 => ?_)
        · refine G.aload_n0 dX18_of_20 ?_
          refine G.getfield (k := 1) fl_X18_17 (by assumption) rfl dX18_of_21 ?_
          refine G.aload_n1 dX18_of_24 ?_
          refine G.sum (d := 5 + 60) rfl hB (e_smO 60 c s2 D hs2 hB hE h0) cu_X18_20_X12_X12_of cu_X18_20_X13_X13_of cu_X18_20_X14_X14_of cu_X18_20_X15_X15_of dX18_of_25 (fun r2 H2 q2 => ?_) (Nat.le_of_ble_eq_true rfl) ⟨Nat.le_of_ble_eq_true rfl, Nat.le_of_ble_eq_true rfl⟩ ⟨Nat.le_of_ble_eq_true rfl, Nat.le_of_ble_eq_true rfl⟩ ⟨Nat.le_of_ble_eq_true rfl, Nat.le_of_ble_eq_true rfl⟩ ⟨Nat.le_of_ble_eq_true rfl, Nat.le_of_ble_eq_true rfl⟩
          cases e2 : s2 e with
          | none =>
            rw [e2] at q2
            obtain ⟨rfl, -⟩ := q2
            rw [zCj_n2 e2]
            have hb1 : (xs D 17 1 (bI (none : Option Int64).isNone)).1 17 1 = bI true := xs_1
            refine G.lstore4 dX18_of_28 ?_
            refine G.aload_n1 dX18_of_30 ?_
            refine G.xgeti 17 1 fl_X18_26 dX18_of_31 ?_
            rw [hb1]
            refine G.ifb_ne (tgt := 86) dX18_of_34 (by decide) (fun c_34 => ?_) (fun c_34 => ?_)
            · refine G.iconst (v := nI 0) dX18_of_86 (by decide) ?_
              refine G.ireturn dX18_of_87 ?_ (hn := by first | rfl | exact bI_nar _)
              exact ⟨_, rfl, false, rfl, rfl, fun v hv => by cases hv⟩
            · exact absurd c_34 (fun z => Bool.false_ne_true z.symm)
          | some q =>
            rw [e2] at q2
            obtain ⟨rfl, hv2⟩ := q2
            obtain rfl := hv2 q rfl
            rw [show (bI (some r2 : Option Int64).isNone) = bI false from rfl, hid]
            rw [zCmp_ev hk e1 e2]
            have hfin : ∀ (rb : Bool) (x : Option Bool), x = some rb → ∀ r, r = bI rb → tsQ L D ph 17 x r (xov L D ph) := by
              intro rb x hx r hr
              refine ⟨rb, hr, ?_, fun v hv => ?_⟩
              · rw [hx, show (bI (some rb : Option Bool).isNone) = bI false from rfl, hid]
              · rw [hx] at hv; cases hv; rfl
            refine G.lstore4 dX18_of_28 ?_
            refine G.aload_n1 dX18_of_30 ?_
            refine G.xgeti 17 1 fl_X18_26 dX18_of_31 ?_
            rw [hb0]
            refine G.ifb_ne (tgt := 86) dX18_of_34 (by decide) (fun c_34 => ?_) (fun c_34 => ?_)
            · exact absurd c_34 Bool.false_ne_true
            · refine G.aload_n0 dX18_of_37 ?_
              refine G.getfield (k := 2) fl_X18_13 (by assumption) rfl dX18_of_38 ?_
              refine G.bipush (v := nI 60) dX18_of_41 (by decide) ?_
              refine G.icmp_ne (tgt := 56) dX18_of_43 (by decide) (fun c_43 => ?_) (fun c_43 => ?_)
              · refine G.aload_n0 dX18_of_56 ?_
                refine G.getfield (k := 2) fl_X18_13 (by assumption) rfl dX18_of_57 ?_
                refine G.bipush (v := nI 62) dX18_of_60 (by decide) ?_
                refine G.icmp_ne (tgt := 75) dX18_of_62 (by decide) (fun c_62 => ?_) (fun c_62 => ?_)
                · refine G.lload_n2 dX18_of_75 ?_
                  refine G.lload4 dX18_of_76 ?_
                  refine G.lcmp dX18_of_78 ?_
                  refine G.if_ne (tgt := 86) dX18_of_79 (by decide) (fun c_79 => ?_) (fun c_79 => ?_)
                  · refine G.iconst (v := nI 0) dX18_of_86 (by decide) ?_
                    refine G.ireturn dX18_of_87 ?_ (hn := by first | rfl | exact bI_nar _)
                    first
                    | (refine ⟨_, rfl, hfin true _ ?_ _ rfl⟩
                       rw [if_pos c_43, decide_eq_true (lg_lt.mp (Int32.not_le.mp c_50))])
                    | (refine ⟨_, rfl, hfin false _ ?_ _ rfl⟩
                       rw [if_pos c_43, decide_eq_false (fun z => absurd (lg_lt.mpr z) (Int32.not_lt.mpr c_50))])
                    | (refine ⟨_, rfl, hfin true _ ?_ _ rfl⟩
                       rw [if_neg c_43, if_pos c_62, decide_eq_true (lg_gt.mp (Int32.not_le.mp c_69))])
                    | (refine ⟨_, rfl, hfin false _ ?_ _ rfl⟩
                       rw [if_neg c_43, if_pos c_62, decide_eq_false (fun z => absurd (lg_gt.mpr z) (Int32.not_lt.mpr c_69))])
                    | (refine ⟨_, rfl, hfin false _ ?_ _ rfl⟩
                       rw [if_neg c_43, if_neg c_62, decide_eq_false (fun z => c_79 (lg_eq.mpr z))])
                    | (refine ⟨_, rfl, hfin true _ ?_ _ rfl⟩
                       rw [if_neg c_43, if_neg c_62, decide_eq_true (lg_eq.mp c_79)])
                  · refine G.iconst (v := nI 1) dX18_of_82 (by decide) ?_
                    refine G.goto (tgt := 87) dX18_of_83 (by decide) ?_
                    refine G.ireturn dX18_of_87 ?_ (hn := by first | rfl | exact bI_nar _)
                    first
                    | (refine ⟨_, rfl, hfin true _ ?_ _ rfl⟩
                       rw [if_pos c_43, decide_eq_true (lg_lt.mp (Int32.not_le.mp c_50))])
                    | (refine ⟨_, rfl, hfin false _ ?_ _ rfl⟩
                       rw [if_pos c_43, decide_eq_false (fun z => absurd (lg_lt.mpr z) (Int32.not_lt.mpr c_50))])
                    | (refine ⟨_, rfl, hfin true _ ?_ _ rfl⟩
                       rw [if_neg c_43, if_pos c_62, decide_eq_true (lg_gt.mp (Int32.not_le.mp c_69))])
                    | (refine ⟨_, rfl, hfin false _ ?_ _ rfl⟩
                       rw [if_neg c_43, if_pos c_62, decide_eq_false (fun z => absurd (lg_gt.mpr z) (Int32.not_lt.mpr c_69))])
                    | (refine ⟨_, rfl, hfin false _ ?_ _ rfl⟩
                       rw [if_neg c_43, if_neg c_62, decide_eq_false (fun z => c_79 (lg_eq.mpr z))])
                    | (refine ⟨_, rfl, hfin true _ ?_ _ rfl⟩
                       rw [if_neg c_43, if_neg c_62, decide_eq_true (lg_eq.mp c_79)])
                · refine G.lload_n2 dX18_of_65 ?_
                  refine G.lload4 dX18_of_66 ?_
                  refine G.lcmp dX18_of_68 ?_
                  refine G.if_le (tgt := 86) dX18_of_69 (by decide) (fun c_69 => ?_) (fun c_69 => ?_)
                  · refine G.iconst (v := nI 0) dX18_of_86 (by decide) ?_
                    refine G.ireturn dX18_of_87 ?_ (hn := by first | rfl | exact bI_nar _)
                    first
                    | (refine ⟨_, rfl, hfin true _ ?_ _ rfl⟩
                       rw [if_pos c_43, decide_eq_true (lg_lt.mp (Int32.not_le.mp c_50))])
                    | (refine ⟨_, rfl, hfin false _ ?_ _ rfl⟩
                       rw [if_pos c_43, decide_eq_false (fun z => absurd (lg_lt.mpr z) (Int32.not_lt.mpr c_50))])
                    | (refine ⟨_, rfl, hfin true _ ?_ _ rfl⟩
                       rw [if_neg c_43, if_pos c_62, decide_eq_true (lg_gt.mp (Int32.not_le.mp c_69))])
                    | (refine ⟨_, rfl, hfin false _ ?_ _ rfl⟩
                       rw [if_neg c_43, if_pos c_62, decide_eq_false (fun z => absurd (lg_gt.mpr z) (Int32.not_lt.mpr c_69))])
                    | (refine ⟨_, rfl, hfin false _ ?_ _ rfl⟩
                       rw [if_neg c_43, if_neg c_62, decide_eq_false (fun z => c_79 (lg_eq.mpr z))])
                    | (refine ⟨_, rfl, hfin true _ ?_ _ rfl⟩
                       rw [if_neg c_43, if_neg c_62, decide_eq_true (lg_eq.mp c_79)])
                  · refine G.goto (tgt := 82) dX18_of_72 (by decide) ?_
                    refine G.iconst (v := nI 1) dX18_of_82 (by decide) ?_
                    refine G.goto (tgt := 87) dX18_of_83 (by decide) ?_
                    refine G.ireturn dX18_of_87 ?_ (hn := by first | rfl | exact bI_nar _)
                    first
                    | (refine ⟨_, rfl, hfin true _ ?_ _ rfl⟩
                       rw [if_pos c_43, decide_eq_true (lg_lt.mp (Int32.not_le.mp c_50))])
                    | (refine ⟨_, rfl, hfin false _ ?_ _ rfl⟩
                       rw [if_pos c_43, decide_eq_false (fun z => absurd (lg_lt.mpr z) (Int32.not_lt.mpr c_50))])
                    | (refine ⟨_, rfl, hfin true _ ?_ _ rfl⟩
                       rw [if_neg c_43, if_pos c_62, decide_eq_true (lg_gt.mp (Int32.not_le.mp c_69))])
                    | (refine ⟨_, rfl, hfin false _ ?_ _ rfl⟩
                       rw [if_neg c_43, if_pos c_62, decide_eq_false (fun z => absurd (lg_gt.mpr z) (Int32.not_lt.mpr c_69))])
                    | (refine ⟨_, rfl, hfin false _ ?_ _ rfl⟩
                       rw [if_neg c_43, if_neg c_62, decide_eq_false (fun z => c_79 (lg_eq.mpr z))])
                    | (refine ⟨_, rfl, hfin true _ ?_ _ rfl⟩
                       rw [if_neg c_43, if_neg c_62, decide_eq_true (lg_eq.mp c_79)])
              · refine G.lload_n2 dX18_of_46 ?_
                refine G.lload4 dX18_of_47 ?_
                refine G.lcmp dX18_of_49 ?_
                refine G.if_ge (tgt := 86) dX18_of_50 (by decide) (fun c_50 => ?_) (fun c_50 => ?_)
                · refine G.iconst (v := nI 0) dX18_of_86 (by decide) ?_
                  refine G.ireturn dX18_of_87 ?_ (hn := by first | rfl | exact bI_nar _)
                  first
                  | (refine ⟨_, rfl, hfin true _ ?_ _ rfl⟩
                     rw [if_pos c_43, decide_eq_true (lg_lt.mp (Int32.not_le.mp c_50))])
                  | (refine ⟨_, rfl, hfin false _ ?_ _ rfl⟩
                     rw [if_pos c_43, decide_eq_false (fun z => absurd (lg_lt.mpr z) (Int32.not_lt.mpr c_50))])
                  | (refine ⟨_, rfl, hfin true _ ?_ _ rfl⟩
                     rw [if_neg c_43, if_pos c_62, decide_eq_true (lg_gt.mp (Int32.not_le.mp c_69))])
                  | (refine ⟨_, rfl, hfin false _ ?_ _ rfl⟩
                     rw [if_neg c_43, if_pos c_62, decide_eq_false (fun z => absurd (lg_gt.mpr z) (Int32.not_lt.mpr c_69))])
                  | (refine ⟨_, rfl, hfin false _ ?_ _ rfl⟩
                     rw [if_neg c_43, if_neg c_62, decide_eq_false (fun z => c_79 (lg_eq.mpr z))])
                  | (refine ⟨_, rfl, hfin true _ ?_ _ rfl⟩
                     rw [if_neg c_43, if_neg c_62, decide_eq_true (lg_eq.mp c_79)])
                · refine G.goto (tgt := 82) dX18_of_53 (by decide) ?_
                  refine G.iconst (v := nI 1) dX18_of_82 (by decide) ?_
                  refine G.goto (tgt := 87) dX18_of_83 (by decide) ?_
                  refine G.ireturn dX18_of_87 ?_ (hn := by first | rfl | exact bI_nar _)
                  first
                  | (refine ⟨_, rfl, hfin true _ ?_ _ rfl⟩
                     rw [if_pos c_43, decide_eq_true (lg_lt.mp (Int32.not_le.mp c_50))])
                  | (refine ⟨_, rfl, hfin false _ ?_ _ rfl⟩
                     rw [if_pos c_43, decide_eq_false (fun z => absurd (lg_lt.mpr z) (Int32.not_lt.mpr c_50))])
                  | (refine ⟨_, rfl, hfin true _ ?_ _ rfl⟩
                     rw [if_neg c_43, if_pos c_62, decide_eq_true (lg_gt.mp (Int32.not_le.mp c_69))])
                  | (refine ⟨_, rfl, hfin false _ ?_ _ rfl⟩
                     rw [if_neg c_43, if_pos c_62, decide_eq_false (fun z => absurd (lg_gt.mpr z) (Int32.not_lt.mpr c_69))])
                  | (refine ⟨_, rfl, hfin false _ ?_ _ rfl⟩
                     rw [if_neg c_43, if_neg c_62, decide_eq_false (fun z => c_79 (lg_eq.mpr z))])
                  | (refine ⟨_, rfl, hfin true _ ?_ _ rfl⟩
                     rw [if_neg c_43, if_neg c_62, decide_eq_true (lg_eq.mp c_79)])
        · exact absurd c_13 Bool.false_ne_true
    · refine ⟨fun x hx => absurd (ciNe ha hx).1 (by decide), fun x hx => ?_, fun x hx => absurd (ciNe ha hx).1 (by decide), 19, _, ha, Or.inr (Or.inl rfl)⟩
      have hx2 := xbase (D := D) hB ha rfl
      refine Ct.of [some (.ref a), some (.ref (L.1 17))] rfl (Nat.le_of_ble_eq_true rfl) (show plainName RX19 = true by decide +kernel) rfl ?_
      refine G.aload_n0 dX19_of_0 ?_
      refine G.getfield (k := 0) fl_X19_7 (by assumption) rfl dX19_of_1 ?_
      refine G.aload_n1 dX19_of_4 ?_
      refine G.test (d := 406 + f) hB (ih b t1 D ht1 hB hE h0) cu_X19_13_X18_X18_of cu_X19_13_X19_X19_of cu_X19_13_X20_X20_of dX19_of_5 (fun r1 H1 q1 => ?_) (Nat.le_of_ble_eq_true rfl) (jroom_of rfl rfl (by omega) (Nat.le_of_ble_eq_true rfl)) (jroom_of rfl rfl (by omega) (Nat.le_of_ble_eq_true rfl)) (jroom_of rfl rfl (by omega) (Nat.le_of_ble_eq_true rfl))
      obtain ⟨rb, rfl, rfl, hv⟩ := q1
      refine G.ifb_ne (tgt := 22) dX19_of_8 (by decide) (fun c_8 => ?_) (fun c_8 => ?_)
      · refine G.iconst (v := nI 0) dX19_of_22 (by decide) ?_
        refine G.ireturn dX19_of_23 ?_ (hn := by first | rfl | exact bI_nar _)
        cases e1 : t1 e with
        | none =>
          have hz : zNot true t1 e = none := by unfold zNot; rw [e1]
          rw [hz]
          first
            | exact ⟨_, rfl, false, rfl, rfl, fun v hv => by cases hv⟩
            | exact ⟨_, rfl, true, rfl, rfl, fun v hv => by cases hv⟩
        | some v =>
          obtain rfl : rb = v := hv v e1
          have hz : zNot true t1 e = some (rb != true) := by unfold zNot; rw [e1]
          rw [hz]
          first
            | (rw [e1] at c_15
               exact absurd c_15 Bool.false_ne_true)
            | (subst c_8
               exact ⟨_, rfl, false, rfl, rfl, fun w hw => by cases hw; rfl⟩)
            | (subst c_8
               exact ⟨_, rfl, true, rfl, rfl, fun w hw => by cases hw; rfl⟩)
      · refine G.aload_n1 dX19_of_11 ?_
        refine G.xgeti 17 1 fl_X19_17 dX19_of_12 ?_
        rw [xs_1]
        refine G.ifb_ne (tgt := 22) dX19_of_15 (by decide) (fun c_15 => ?_) (fun c_15 => ?_)
        · refine G.iconst (v := nI 0) dX19_of_22 (by decide) ?_
          refine G.ireturn dX19_of_23 ?_ (hn := by first | rfl | exact bI_nar _)
          cases e1 : t1 e with
          | none =>
            have hz : zNot true t1 e = none := by unfold zNot; rw [e1]
            rw [hz]
            first
              | exact ⟨_, rfl, false, rfl, rfl, fun v hv => by cases hv⟩
              | exact ⟨_, rfl, true, rfl, rfl, fun v hv => by cases hv⟩
          | some v =>
            obtain rfl : rb = v := hv v e1
            have hz : zNot true t1 e = some (rb != true) := by unfold zNot; rw [e1]
            rw [hz]
            first
              | (rw [e1] at c_15
                 exact absurd c_15 Bool.false_ne_true)
              | (subst c_8
                 exact ⟨_, rfl, false, rfl, rfl, fun w hw => by cases hw; rfl⟩)
              | (subst c_8
                 exact ⟨_, rfl, true, rfl, rfl, fun w hw => by cases hw; rfl⟩)
        · refine G.iconst (v := nI 1) dX19_of_18 (by decide) ?_
          refine G.goto (tgt := 23) dX19_of_19 (by decide) ?_
          refine G.ireturn dX19_of_23 ?_ (hn := by first | rfl | exact bI_nar _)
          cases e1 : t1 e with
          | none =>
            have hz : zNot true t1 e = none := by unfold zNot; rw [e1]
            rw [hz]
            first
              | exact ⟨_, rfl, false, rfl, rfl, fun v hv => by cases hv⟩
              | exact ⟨_, rfl, true, rfl, rfl, fun v hv => by cases hv⟩
          | some v =>
            obtain rfl : rb = v := hv v e1
            have hz : zNot true t1 e = some (rb != true) := by unfold zNot; rw [e1]
            rw [hz]
            first
              | (rw [e1] at c_15
                 exact absurd c_15 Bool.false_ne_true)
              | (subst c_8
                 exact ⟨_, rfl, false, rfl, rfl, fun w hw => by cases hw; rfl⟩)
              | (subst c_8
                 exact ⟨_, rfl, true, rfl, rfl, fun w hw => by cases hw; rfl⟩)
    · refine ⟨fun x hx => absurd (ciNe ha hx).1 (by decide), fun x hx => absurd (ciNe ha hx).1 (by decide), fun x hx => ?_, 20, _, ha, Or.inr (Or.inr rfl)⟩
      have hx2 := xbase (D := D) hB ha rfl
      have hx3 := xbase (D := D) hB hb rfl
      have loop : ∀ (as' : List Nat) (ts' : List Ts) (i : Nat) (a5 a6 : Option Value), i + as'.length = m → (∀ j (h : j < as'.length), g (i + j) = some as'[j]) → rAll (rTs (L.1 0) true ph f) as' ts' → G E (fX20_of (406 + (f + 1))) (jFin E (fX20_of (406 + (f + 1))) (pI (tsQ L D ph 17 (zRow all ts' e))) jNo) 11 [some (.ref a), some (.ref (L.1 17)), some (.ref b), some (.int (nI m)), some (.int (nI i)), a5, a6] [] (xov L D ph) 0 0 := by
        intro as'
        induction as' with
        | nil =>
          intro ts' i a5 a6 hi hg' hr
          cases ts' with
          | cons t ts => exact hr.elim
          | nil =>
            rw [List.length_nil] at hi
            refine G.iload4 dX20_of_11 ?_
            refine G.iload_n3 dX20_of_13 ?_
            refine G.icmp_ge (tgt := 68) dX20_of_14 (by decide) (fun c_14 => ?_) (fun c_14 => ?_)
            · refine G.aload_n0 dX20_of_68 ?_
              refine G.getfield (k := 0) fl_X20_7 (by assumption) rfl dX20_of_69 ?_
              refine G.ireturn dX20_of_72 ?_ (hn := by first | rfl | exact bI_nar _)
              exact ⟨_, rfl, all, rfl, (by rw [show zRow all [] e = some all from rfl, show (bI (some all : Option Bool).isNone) = bI false from rfl, hid]), fun v hv => by cases hv; rfl⟩
            · exact absurd (nI_leI (by omega) (by omega) |>.mpr (by omega)) c_14
        | cons a' as' ihl =>
          intro ts' i a5 a6 hi hg' hr
          rw [List.length_cons] at hi
          cases ts' with
          | nil => exact hr.elim
          | cons t ts =>
            obtain ⟨hr1, hr2⟩ := hr
            have hg0 : g i = some a' := hg' 0 (by rw [List.length_cons]; omega)
            refine G.iload4 dX20_of_11 ?_
            refine G.iload_n3 dX20_of_13 ?_
            refine G.icmp_ge (tgt := 68) dX20_of_14 (by decide) (fun c_14 => ?_) (fun c_14 => ?_)
            · exact absurd ((nI_leI (by omega) (by omega)).mp c_14) (by omega)
            · refine G.aload_n2 dX20_of_17 ?_
              refine G.iload4 dX20_of_18 ?_
              refine G.aaload i hx3 dX20_of_20 rfl (by omega) (by omega) ?_
              rw [hg0]
              refine G.astore5 dX20_of_21 ?_
              refine G.aload5 dX20_of_23 ?_
              refine G.aload_n1 dX20_of_25 ?_
              refine G.test (d := 406 + f) hB (ih a' t D hr1 hB hE h0) cu_X20_17_X18_X18_of cu_X20_17_X19_X19_of cu_X20_17_X20_X20_of dX20_of_26 (fun r1 H1 q1 => ?_) (Nat.le_of_ble_eq_true rfl) (jroom_of rfl rfl (by omega) (Nat.le_of_ble_eq_true rfl)) (jroom_of rfl rfl (by omega) (Nat.le_of_ble_eq_true rfl)) (jroom_of rfl rfl (by omega) (Nat.le_of_ble_eq_true rfl))
              obtain ⟨rb, rfl, rfl, hv⟩ := q1
              cases e1 : t e with
              | none =>
                rw [zRow_n e1]
                have hb1 : (xs D 17 1 (bI (none : Option Bool).isNone)).1 17 1 = bI true := xs_1
                refine G.istore6 dX20_of_29 ?_
                refine G.aload_n1 dX20_of_31 ?_
                refine G.xgeti 17 1 fl_X20_21 dX20_of_32 ?_
                rw [hb1]
                refine G.ifb_eq (tgt := 40) dX20_of_35 (by decide) (fun c_35 => ?_) (fun c_35 => ?_)
                · exact absurd c_35 (fun z => Bool.false_ne_true z.symm)
                · refine G.iconst (v := nI 0) dX20_of_38 (by decide) ?_
                  refine G.ireturn dX20_of_39 ?_ (hn := by first | rfl | exact bI_nar _)
                  exact ⟨_, rfl, false, rfl, rfl, fun v hv => by cases hv⟩
              | some v =>
                obtain rfl : rb = v := hv v e1
                rw [zRow_s e1, show (bI (some rb : Option Bool).isNone) = bI false from rfl, hid]
                refine G.istore6 dX20_of_29 ?_
                refine G.aload_n1 dX20_of_31 ?_
                refine G.xgeti 17 1 fl_X20_21 dX20_of_32 ?_
                rw [hb0]
                refine G.ifb_eq (tgt := 40) dX20_of_35 (by decide) (fun c_35 => ?_) (fun c_35 => ?_)
                · refine G.iload6 dX20_of_40 ?_
                  refine G.aload_n0 dX20_of_42 ?_
                  refine G.getfield (k := 0) fl_X20_7 (by assumption) rfl dX20_of_43 ?_
                  refine G.icmp_eq (tgt := 62) dX20_of_46 (by decide) (fun c_46 => ?_) (fun c_46 => ?_)
                  · have hq : rb = all := bI_inj.mp c_46
                    rw [if_pos hq]
                    refine G.iinc4 dX20_of_62 ?_
                    try rw [show ∀ a : Nat, nI a + Int32.ofInt 1 = nI (a + 1) from fun a => nI_add a 1]
                    refine G.goto (tgt := 11) dX20_of_65 (by decide) ?_
                    exact ihl ts (i + 1) _ _ (by omega) (fun j hj => by
                      have := hg' (j + 1) (by rw [List.length_cons]; omega)
                      rw [show i + (j + 1) = i + 1 + j from by omega] at this
                      exact this) hr2
                  · have hq : ¬ rb = all := fun z => c_46 (congrArg bI z)
                    rw [if_neg hq]
                    refine G.aload_n0 dX20_of_49 ?_
                    refine G.getfield (k := 0) fl_X20_7 (by assumption) rfl dX20_of_50 ?_
                    refine G.ifb_ne (tgt := 60) dX20_of_53 (by decide) (fun c_53 => ?_) (fun c_53 => ?_)
                    · refine G.iconst (v := nI 0) dX20_of_60 (by decide) ?_
                      refine G.ireturn dX20_of_61 ?_ (hn := by first | rfl | exact bI_nar _)
                      have hn : rb = !all := by
                        cases rb <;> cases all <;> first | rfl | exact absurd rfl hq
                      first
                        | (subst c_53
                           exact ⟨_, rfl, rb, (by rw [hn]; rfl), (by rw [show (bI (some rb : Option Bool).isNone) = bI false from rfl, hid]), fun v hv => by cases hv; rfl⟩)
                    · refine G.iconst (v := nI 1) dX20_of_56 (by decide) ?_
                      refine G.goto (tgt := 61) dX20_of_57 (by decide) ?_
                      refine G.ireturn dX20_of_61 ?_ (hn := by first | rfl | exact bI_nar _)
                      have hn : rb = !all := by
                        cases rb <;> cases all <;> first | rfl | exact absurd rfl hq
                      first
                        | (subst c_53
                           exact ⟨_, rfl, rb, (by rw [hn]; rfl), (by rw [show (bI (some rb : Option Bool).isNone) = bI false from rfl, hid]), fun v hv => by cases hv; rfl⟩)
                · exact absurd c_35 Bool.false_ne_true
      refine Ct.of [some (.ref a), some (.ref (L.1 17)), none, none, none, none, none] rfl (Nat.le_of_ble_eq_true rfl) (show plainName RX20 = true by decide +kernel) rfl ?_
      refine G.aload_n0 dX20_of_0 ?_
      refine G.getfield (k := 1) fl_X20_13 (by assumption) rfl dX20_of_1 ?_
      refine G.astore_n2 dX20_of_4 ?_
      refine G.aload_n2 dX20_of_5 ?_
      refine G.arraylength hx3 dX20_of_6 rfl ?_
      refine G.istore_n3 dX20_of_7 ?_
      refine G.iconst (v := nI 0) dX20_of_8 (by decide) ?_
      refine G.istore4 dX20_of_9 ?_
      exact loop as ts 0 none none (by omega) (fun j hj => by rw [Nat.zero_add]; exact hg j hj) hall
end TestO
