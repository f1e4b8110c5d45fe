/-! THE MODEL TELLS: tests -/
theorem zCmp_n1 {op : Int32} {a b : Sm} {e : En} (h : a e = none) : zCmp op a b e = none := by
  unfold zCmp; rw [h]
theorem zCmp_n2 {op : Int32} {a b : Sm} {e : En} {v : Int64} (h1 : a e = some v) (h : b e = none) : zCmp op a b e = none := by
  unfold zCmp; rw [h1, h]
theorem z_cmp {live b : Bool} {a c : Sm} {e : En} {op : Int32} {x y : Int64} (ha : zV live b (a e) x) (hc : zV live (zB live b (a e)) (c e) y) : zB live (zB live b (a e)) (c e) = zB live b (zCmp op a c e) ∧ (live = true → b = false → ∀ v, zCmp op a c e = some v → zB live (zB live b (a e)) (c e) = false ∧ v = (if op = nI 160 then decide (x < y) else if op = nI 162 then decide (y < x) else decide (x = y))) := by
  by_cases hd : live = false ∨ b = true
  · have e0 : zB live b (a e) = b := zB_dead hd
    refine ⟨by rw [e0, zB_dead hd, zB_dead hd], fun h1 h2 => ?_⟩
    rcases hd with h | h
    · rw [h] at h1; cases h1
    · rw [h] at h2; cases h2
  · have hl : live = true := by cases live <;> simp at hd ⊢
    have hb : b = false := by cases b <;> simp at hd ⊢
    have e0 : zB live b (a e) = (a e).isNone := zB_or hl hb
    cases h1 : a e with
    | none =>
      rw [zCmp_n1 h1]
      rw [h1] at e0
      exact ⟨by rw [e0, show zB live (none : Option Int64).isNone (c e) = true from zB_dead (Or.inr rfl), zB_or hl hb]; rfl, fun _ _ v h => by cases h⟩
    | some x1 =>
      have hx := ha hl hb x1 h1
      have e0' : zB live b (a e) = false := by rw [e0, h1]; rfl
      rw [← h1, e0']
      cases h2 : c e with
      | none =>
        rw [zCmp_n2 h1 h2]
        exact ⟨by rw [zB_or hl rfl, zB_or hl hb]; rfl, fun _ _ v h => by cases h⟩
      | some y1 =>
        have hy := hc hl e0' y1 h2
        subst hx; subst hy
        have hz : zCmp op a c e = some (if op = nI 160 then decide (x < y) else if op = nI 162 then decide (y < x) else decide (x = y)) := by
          unfold zCmp; rw [h1, h2]
        rw [hz]
        exact ⟨by rw [zB_some, zB_some, hb], fun _ _ v h => by cases h; exact ⟨zB_some, rfl⟩⟩
theorem pPos_open {tk : Tk} {sm : Nat → Nat → Rs Sm} {sub : Option (Nat → Nat → Rs Ts)} {pos lv : Nat} {s : Ts} {p l : Nat} (h : pPos tk sm sub pos lv = .inr (s, p, l)) (q : tk.1 pos = nI 140) : ∃ g p1, sub = some g ∧ g (pos + 1) lv = .inr (s, p1, l) ∧ tk.1 p1 = nI 141 ∧ p = p1 + 1 := by
  unfold pPos at h
  rw [if_pos q] at h
  cases sub with
  | none => cases h
  | some g =>
    dsimp only at h
    cases h3 : g (pos + 1) lv with
    | inl x => rw [h3] at h; cases h
    | inr x =>
      obtain ⟨s1, p1, l1⟩ := x
      rw [h3] at h
      dsimp only at h
      split at h
      · rename_i h4
        cases h
        exact ⟨g, p1, rfl, h3, h4, rfl⟩
      · cases h
theorem pPos_cmp {tk : Tk} {sm : Nat → Nat → Rs Sm} {sub : Option (Nat → Nat → Rs Ts)} {pos lv : Nat} {s : Ts} {p l : Nat} (h : pPos tk sm sub pos lv = .inr (s, p, l)) (q : ¬ tk.1 pos = nI 140) : ∃ a p1 l1 c, sm pos lv = .inr (a, p1, l1) ∧ isCmp (tk.1 p1) = true ∧ sm (p1 + 1) l1 = .inr (c, p, l) ∧ s = zCmp (tk.1 p1) a c := by
  unfold pPos at h
  rw [if_neg q] at h
  cases h3 : sm pos lv with
  | inl x => rw [h3] at h; cases h
  | inr x =>
    obtain ⟨a, p1, l1⟩ := x
    rw [h3] at h
    dsimp only at h
    split at h
    · rename_i h4
      cases h5 : sm (p1 + 1) l1 with
      | inl x => rw [h5] at h; cases h
      | inr x =>
        obtain ⟨c, p2, l2⟩ := x
        rw [h5] at h
        cases h
        exact ⟨a, p1, l1, c, rfl, h4, h5, rfl⟩
    · cases h
theorem pPos_Q {tk : Tk} {N : Nat} {e : En} {sm : Nat → Nat → Rs Sm} {sub : Option (Nat → Nat → Rs Ts)} (hk : tkOk tk N) (hs : ∀ pos lv s p l, sm pos lv = .inr (s, p, l) → zBd e s ∧ pos < p ∧ p ≤ N) (hsub : ∀ g, sub = some g → ∀ pos lv s p l, g pos lv = .inr (s, p, l) → True ∧ pos < p ∧ p ≤ N) (pos lv : Nat) (s : Ts) (p l : Nat) (h : pPos tk sm sub pos lv = .inr (s, p, l)) : True ∧ pos < p ∧ p ≤ N := by
  by_cases q : tk.1 pos = nI 140
  · obtain ⟨g, p1, hg, h1, h2, rfl⟩ := pPos_open h q
    have := hsub g hg _ _ _ _ _ h1
    have := tk_in hk (by decide) (by decide) h2
    exact ⟨trivial, by omega, by omega⟩
  · obtain ⟨a, p1, l1, c, h1, h2, h3, -⟩ := pPos_cmp h q
    have := hs _ _ _ _ _ h1
    have := hs _ _ _ _ _ h3
    exact ⟨trivial, by omega, by omega⟩
theorem pNots_ge {tk : Tk} {N : Nat} (hk : tkOk tk N) : ∀ (k : Nat) (b : Bool) (pos : Nat), pos ≤ N → pos ≤ (pNots tk k b pos).2 ∧ (pNots tk k b pos).2 ≤ N
  | 0, b, pos, h => ⟨Nat.le_refl _, h⟩
  | k + 1, b, pos, h => by
    rw [pNots]
    split
    · rename_i q
      have hN := tk_in hk (by decide) (by decide) q
      have := pNots_ge hk k (!b) (pos + 1) (by omega)
      omega
    · exact ⟨Nat.le_refl _, h⟩
theorem pPlain_of {tk : Tk} {sm : Nat → Nat → Rs Sm} {sub : Option (Nat → Nat → Rs Ts)} {pos lv : Nat} {s : Ts} {p l : Nat} (h : pPlain tk sm sub pos lv = .inr (s, p, l)) : ∃ t, pPos tk sm sub (pNots tk 402 false pos).2 lv = .inr (t, p, l) ∧ s = zNot (pNots tk 402 false pos).1 t := by
  unfold pPlain at h
  cases h3 : pPos tk sm sub (pNots tk 402 false pos).2 lv with
  | inl x => rw [h3] at h; cases h
  | inr x =>
    obtain ⟨t, p1, l1⟩ := x
    rw [h3] at h
    cases h
    exact ⟨t, rfl, rfl⟩
theorem pPlain_Q {tk : Tk} {N : Nat} {e : En} {sm : Nat → Nat → Rs Sm} {sub : Option (Nat → Nat → Rs Ts)} (hk : tkOk tk N) (hs : ∀ pos lv s p l, sm pos lv = .inr (s, p, l) → zBd e s ∧ pos < p ∧ p ≤ N) (hsub : ∀ g, sub = some g → ∀ pos lv s p l, g pos lv = .inr (s, p, l) → True ∧ pos < p ∧ p ≤ N) (pos lv : Nat) (s : Ts) (p l : Nat) (h : pPlain tk sm sub pos lv = .inr (s, p, l)) : True ∧ pos < p ∧ p ≤ N := by
  obtain ⟨t, h1, -⟩ := pPlain_of h
  have h2 := pPos_Q hk hs hsub _ _ _ _ _ h1
  rcases Nat.lt_or_ge N pos with q | q
  · exfalso
    have : (pNots tk 402 false pos).2 = pos := by
      rw [pNots, if_neg]
      intro z
      have := tk_in hk (by decide) (by decide) z
      omega
    omega
  · have := pNots_ge hk 402 false pos q
    exact ⟨trivial, by omega, h2.2.2⟩
theorem pTest_Q {ord : Bool} {tk : Tk} {N : Nat} {e : En} (hk : tkOk tk N) (he : enOk e) : ∀ (r pos lv : Nat) (s : Ts) (p l : Nat), pTest ord tk r pos lv = .inr (s, p, l) → True ∧ pos < p ∧ p ≤ N := by
  intro r
  induction r with
  | zero =>
    intro pos lv s p l h
    rw [pTest] at h
    exact pRows_Q (pRows_Q (pPlain_Q hk (pSum_Q hk he 0) (fun g hg => by cases hg)) (fun _ _ _ _ _ _ => trivial)) (fun _ _ _ _ _ _ => trivial) pos lv s p l h
  | succ r ih =>
    intro pos lv s p l h
    rw [pTest] at h
    exact pRows_Q (pRows_Q (pPlain_Q hk (pSum_Q hk he (r + 1)) (fun g hg => by cases hg; exact ih)) (fun _ _ _ _ _ _ => trivial)) (fun _ _ _ _ _ _ => trivial) pos lv s p l h
theorem bI_inj {a b : Bool} : bI a = bI b ↔ a = b := by cases a <;> cases b <;> decide
section Ev
variable {E : JE} {L : ML} {ph : HP} {B N : Nat} {tk : Tk} {ord : Bool} {e : En} {n : Nat}
theorem e_pos {dt ds : Nat} {sm : Nat → Nat → Rs Sm} {sub : Option (Nat → Nat → Rs Ts)} (hds : 9 ≤ ds) (hdd : ds ≤ dt) (hk0 : tkOk tk N) (hsm : EvS E (fX6_sumOf ds) L ph sm B N tk ord e n) (hQs : ∀ pos lv s p l, sm pos lv = .inr (s, p, l) → zBd e s ∧ pos < p ∧ p ≤ N) (hsub : ∀ g, sub = some g → EvT E (fX6_testOf dt) L ph g B N tk ord e n ∧ ∀ pos lv s p l, g pos lv = .inr (s, p, l) → True ∧ pos < p ∧ p ≤ N) : EvT E (fX6_positiveOf (dt + 1)) L ph (pPos tk sm sub) B N tk ord e n := by
  intro M pos lv s p l live b hC hP hgo hb
  have hBN : B + N ≤ 2800 := hC.1
  obtain ⟨-, hlt, hle⟩ := pPos_Q hk0 hQs (fun g hg => (hsub g hg).2) _ _ _ _ _ hP
  refine Ct.of [some (.ref (L.1 52)), some (.int (bI live)), none, none, none, none, none] rfl (Nat.le_of_ble_eq_true rfl) (show plainName RX6 = true by decide +kernel) rfl ?_
  refine G.aload_n0 dX6_positiveOf_0 ?_
  refine G.bipush (v := nI 40) dX6_positiveOf_1 (by decide) ?_
  refine G.scall (f' := fX6_sign) q2053 ck_X6_sign (c_X6_sign E 40) dX6_positiveOf_3 (sI.k fun r_3 h_3 => ?_) (hroom := jroom_of rfl rfl (by omega) (Nat.le_of_ble_eq_true rfl))
  replace h_3 := h_3.symm; subst h_3
  refine G.mcall (f' := fX6_passes0) q2140 ck_X6_passes0 (c_X6_passes0 (pos := pos) (nI 140) hC (by omega) hgo) dX6_positiveOf_6 (rI.k fun r_6 M_6 h_6 => ?_) (hroom := jroom_of rfl rfl (by omega) (Nat.le_of_ble_eq_true rfl))
  obtain ⟨e_6, h_6⟩ := h_6; replace e_6 := e_6.symm; replace h_6 := h_6.symm; subst e_6; subst h_6
  refine G.ifb_eq (tgt := 30) dX6_positiveOf_9 (by decide) (fun c_9 => ?_) (fun c_9 => ?_)
  · have q := of_decide_eq_false c_9
    rw [if_neg q]
    obtain ⟨a, p1, l1, c, h1, h2, h3, rfl⟩ := pPos_cmp hP q
    obtain ⟨-, hlt1, hle1⟩ := hQs _ _ _ _ _ h1
    refine G.aload_n0 dX6_positiveOf_30 ?_
    refine G.iload_n1 dX6_positiveOf_31 ?_
    refine G.mcall (f' := fX6_sumOf (ds)) q2128 (ck_X6_sumOf _) (hsm M pos lv a p1 l1 live b hC h1 hgo hb) dX6_positiveOf_32 (rJ.k fun r_32 M_32 h_32 => ?_) (hroom := jroom_of rfl rfl (by omega) (Nat.le_of_ble_eq_true rfl))
    obtain ⟨hx, hg', hb', hv⟩ := h_32
    refine G.lstore_n2 dX6_positiveOf_35 ?_
    refine G.aload_n0 dX6_positiveOf_36 ?_
    refine G.aload_n0 dX6_positiveOf_37 ?_
    refine G.mgeti 22 fl_X6_248 dX6_positiveOf_38 ?_
    rw [hg']
    refine G.mcall (f' := fX6_codeAt) q2124 ck_X6_codeAt (c_X6_codeAt (pos := p1) (hC.mv hx) (by omega)) dX6_positiveOf_41 (rI.k fun r_41 M_41 h_41 => ?_) (hroom := jroom_of rfl rfl (by omega) (Nat.le_of_ble_eq_true rfl))
    obtain ⟨e_41, h_41⟩ := h_41; replace e_41 := e_41.symm; replace h_41 := h_41.symm; subst e_41; subst h_41
    refine G.istore4 dX6_positiveOf_44 ?_
    refine G.aload_n0 dX6_positiveOf_46 ?_
    refine G.dup dX6_positiveOf_47 rfl ?_
    refine G.mgeti 22 fl_X6_248 dX6_positiveOf_48 ?_
    rw [hg']
    refine G.iconst (v := nI 1) dX6_positiveOf_51 (by decide) ?_
    first | with_reducible refine G.iaddn dX6_positiveOf_52 ?_ | refine G.iadd dX6_positiveOf_52 ?_
    refine G.mputi 22 fp_X6_248 dX6_positiveOf_53 ?_
    refine G.aload_n0 dX6_positiveOf_56 ?_
    refine G.iload_n1 dX6_positiveOf_57 ?_
    refine G.mcall (f' := fX6_sumOf (ds)) q2128 (ck_X6_sumOf _) (hsm (ms M_32 22 (nI (B + p1 + 1))) (p1 + 1) l1 c p l live (zB live b (a e)) ((hC.mv hx).mv (mX.rf.ms (by decide))) h3 rfl hb') dX6_positiveOf_58 (rJ.k fun r_58 M_58 h_58 => ?_) (hroom := jroom_of rfl rfl (by omega) (Nat.le_of_ble_eq_true rfl))
    obtain ⟨hx2, hg2, hb2, hv2⟩ := h_58
    have hxx : mX [22, 24] [] M M_58 := (hx.ms (by decide)).tr hx2 (by simp) (by simp)
    obtain ⟨z1, z2⟩ := z_cmp (op := tk.1 p1) hv hv2
    have hB : M_58.1 24 = bI (zB live b (zCmp (tk.1 p1) a c e)) := by rw [hb2, z1]
    refine G.lstore5 dX6_positiveOf_61 ?_
    refine G.iload_n1 dX6_positiveOf_63 ?_
    refine G.ifb_eq (tgt := 125) dX6_positiveOf_64 (by decide) (fun c_64 => ?_) (fun c_64 => ?_)
    · refine G.iconst (v := nI 0) dX6_positiveOf_125 (by decide) ?_
      refine G.ireturn dX6_positiveOf_126 ?_ (hn := by first | rfl | exact bI_nar _)
      first
      | refine ⟨_, rfl, _, rfl, true, rfl, hxx, hg2, hB, ?_⟩
      | refine ⟨_, rfl, _, rfl, false, rfl, hxx, hg2, hB, ?_⟩
      intro h1 h2 v h
      have hz := z2 h1 h2 v h
      first
        | exact (Bool.false_ne_true (c_64.symm.trans h1)).elim
        | exact (Bool.false_ne_true (hz.1.symm.trans c_71)).elim
        | (rw [hz.2, if_pos c_81]; exact (decide_eq_true (by simpa only [lg_ge, Int64.not_le] using c_88)).symm)
        | (rw [hz.2, if_pos c_81]; exact (decide_eq_false (by simpa only [lg_ge, Int64.not_lt] using c_88)).symm)
        | (rw [hz.2, if_neg c_81, if_pos c_101]; exact (decide_eq_true (by simpa only [lg_le, Int64.not_le] using c_108)).symm)
        | (rw [hz.2, if_neg c_81, if_pos c_101]; exact (decide_eq_false (by simpa only [lg_le, Int64.not_lt] using c_108)).symm)
        | (rw [hz.2, if_neg c_81, if_neg c_101]; exact (decide_eq_true (lg_eq.mp c_118)).symm)
        | (rw [hz.2, if_neg c_81, if_neg c_101]; exact (decide_eq_false (fun q => c_118 (lg_eq.mpr q))).symm)
    · refine G.aload_n0 dX6_positiveOf_67 ?_
      refine G.mgeti 24 fl_X6_258 dX6_positiveOf_68 ?_
      refine G.topi (bI (zB live (zB live b (a e)) (c e))) hb2 ?_
      refine G.ifb_ne (tgt := 125) dX6_positiveOf_71 (by decide) (fun c_71 => ?_) (fun c_71 => ?_)
      · refine G.iconst (v := nI 0) dX6_positiveOf_125 (by decide) ?_
        refine G.ireturn dX6_positiveOf_126 ?_ (hn := by first | rfl | exact bI_nar _)
        first
        | refine ⟨_, rfl, _, rfl, true, rfl, hxx, hg2, hB, ?_⟩
        | refine ⟨_, rfl, _, rfl, false, rfl, hxx, hg2, hB, ?_⟩
        intro h1 h2 v h
        have hz := z2 h1 h2 v h
        first
          | exact (Bool.false_ne_true (c_64.symm.trans h1)).elim
          | exact (Bool.false_ne_true (hz.1.symm.trans c_71)).elim
          | (rw [hz.2, if_pos c_81]; exact (decide_eq_true (by simpa only [lg_ge, Int64.not_le] using c_88)).symm)
          | (rw [hz.2, if_pos c_81]; exact (decide_eq_false (by simpa only [lg_ge, Int64.not_lt] using c_88)).symm)
          | (rw [hz.2, if_neg c_81, if_pos c_101]; exact (decide_eq_true (by simpa only [lg_le, Int64.not_le] using c_108)).symm)
          | (rw [hz.2, if_neg c_81, if_pos c_101]; exact (decide_eq_false (by simpa only [lg_le, Int64.not_lt] using c_108)).symm)
          | (rw [hz.2, if_neg c_81, if_neg c_101]; exact (decide_eq_true (lg_eq.mp c_118)).symm)
          | (rw [hz.2, if_neg c_81, if_neg c_101]; exact (decide_eq_false (fun q => c_118 (lg_eq.mpr q))).symm)
      · refine G.iload4 dX6_positiveOf_74 ?_
        refine G.bipush (v := nI 60) dX6_positiveOf_76 (by decide) ?_
        refine G.scall (f' := fX6_sign) q2053 ck_X6_sign (c_X6_sign E 60) dX6_positiveOf_78 (sI.k fun r_78 h_78 => ?_) (hroom := jroom_of rfl rfl (by omega) (Nat.le_of_ble_eq_true rfl))
        replace h_78 := h_78.symm; subst h_78
        refine G.icmp_ne (tgt := 94) dX6_positiveOf_81 (by decide) (fun c_81 => ?_) (fun c_81 => ?_)
        · refine G.iload4 dX6_positiveOf_94 ?_
          refine G.bipush (v := nI 62) dX6_positiveOf_96 (by decide) ?_
          refine G.scall (f' := fX6_sign) q2053 ck_X6_sign (c_X6_sign E 62) dX6_positiveOf_98 (sI.k fun r_98 h_98 => ?_) (hroom := jroom_of rfl rfl (by omega) (Nat.le_of_ble_eq_true rfl))
          replace h_98 := h_98.symm; subst h_98
          refine G.icmp_ne (tgt := 114) dX6_positiveOf_101 (by decide) (fun c_101 => ?_) (fun c_101 => ?_)
          · refine G.lload_n2 dX6_positiveOf_114 ?_
            refine G.lload5 dX6_positiveOf_115 ?_
            refine G.lcmp dX6_positiveOf_117 ?_
            refine G.if_ne (tgt := 125) dX6_positiveOf_118 (by decide) (fun c_118 => ?_) (fun c_118 => ?_)
            · refine G.iconst (v := nI 0) dX6_positiveOf_125 (by decide) ?_
              refine G.ireturn dX6_positiveOf_126 ?_ (hn := by first | rfl | exact bI_nar _)
              first
              | refine ⟨_, rfl, _, rfl, true, rfl, hxx, hg2, hB, ?_⟩
              | refine ⟨_, rfl, _, rfl, false, rfl, hxx, hg2, hB, ?_⟩
              intro h1 h2 v h
              have hz := z2 h1 h2 v h
              first
                | exact (Bool.false_ne_true (c_64.symm.trans h1)).elim
                | exact (Bool.false_ne_true (hz.1.symm.trans c_71)).elim
                | (rw [hz.2, if_pos c_81]; exact (decide_eq_true (by simpa only [lg_ge, Int64.not_le] using c_88)).symm)
                | (rw [hz.2, if_pos c_81]; exact (decide_eq_false (by simpa only [lg_ge, Int64.not_lt] using c_88)).symm)
                | (rw [hz.2, if_neg c_81, if_pos c_101]; exact (decide_eq_true (by simpa only [lg_le, Int64.not_le] using c_108)).symm)
                | (rw [hz.2, if_neg c_81, if_pos c_101]; exact (decide_eq_false (by simpa only [lg_le, Int64.not_lt] using c_108)).symm)
                | (rw [hz.2, if_neg c_81, if_neg c_101]; exact (decide_eq_true (lg_eq.mp c_118)).symm)
                | (rw [hz.2, if_neg c_81, if_neg c_101]; exact (decide_eq_false (fun q => c_118 (lg_eq.mpr q))).symm)
            · refine G.iconst (v := nI 1) dX6_positiveOf_121 (by decide) ?_
              refine G.goto (tgt := 126) dX6_positiveOf_122 (by decide) ?_
              refine G.ireturn dX6_positiveOf_126 ?_ (hn := by first | rfl | exact bI_nar _)
              first
              | refine ⟨_, rfl, _, rfl, true, rfl, hxx, hg2, hB, ?_⟩
              | refine ⟨_, rfl, _, rfl, false, rfl, hxx, hg2, hB, ?_⟩
              intro h1 h2 v h
              have hz := z2 h1 h2 v h
              first
                | exact (Bool.false_ne_true (c_64.symm.trans h1)).elim
                | exact (Bool.false_ne_true (hz.1.symm.trans c_71)).elim
                | (rw [hz.2, if_pos c_81]; exact (decide_eq_true (by simpa only [lg_ge, Int64.not_le] using c_88)).symm)
                | (rw [hz.2, if_pos c_81]; exact (decide_eq_false (by simpa only [lg_ge, Int64.not_lt] using c_88)).symm)
                | (rw [hz.2, if_neg c_81, if_pos c_101]; exact (decide_eq_true (by simpa only [lg_le, Int64.not_le] using c_108)).symm)
                | (rw [hz.2, if_neg c_81, if_pos c_101]; exact (decide_eq_false (by simpa only [lg_le, Int64.not_lt] using c_108)).symm)
                | (rw [hz.2, if_neg c_81, if_neg c_101]; exact (decide_eq_true (lg_eq.mp c_118)).symm)
                | (rw [hz.2, if_neg c_81, if_neg c_101]; exact (decide_eq_false (fun q => c_118 (lg_eq.mpr q))).symm)
          · refine G.lload_n2 dX6_positiveOf_104 ?_
            refine G.lload5 dX6_positiveOf_105 ?_
            refine G.lcmp dX6_positiveOf_107 ?_
            refine G.if_le (tgt := 125) dX6_positiveOf_108 (by decide) (fun c_108 => ?_) (fun c_108 => ?_)
            · refine G.iconst (v := nI 0) dX6_positiveOf_125 (by decide) ?_
              refine G.ireturn dX6_positiveOf_126 ?_ (hn := by first | rfl | exact bI_nar _)
              first
              | refine ⟨_, rfl, _, rfl, true, rfl, hxx, hg2, hB, ?_⟩
              | refine ⟨_, rfl, _, rfl, false, rfl, hxx, hg2, hB, ?_⟩
              intro h1 h2 v h
              have hz := z2 h1 h2 v h
              first
                | exact (Bool.false_ne_true (c_64.symm.trans h1)).elim
                | exact (Bool.false_ne_true (hz.1.symm.trans c_71)).elim
                | (rw [hz.2, if_pos c_81]; exact (decide_eq_true (by simpa only [lg_ge, Int64.not_le] using c_88)).symm)
                | (rw [hz.2, if_pos c_81]; exact (decide_eq_false (by simpa only [lg_ge, Int64.not_lt] using c_88)).symm)
                | (rw [hz.2, if_neg c_81, if_pos c_101]; exact (decide_eq_true (by simpa only [lg_le, Int64.not_le] using c_108)).symm)
                | (rw [hz.2, if_neg c_81, if_pos c_101]; exact (decide_eq_false (by simpa only [lg_le, Int64.not_lt] using c_108)).symm)
                | (rw [hz.2, if_neg c_81, if_neg c_101]; exact (decide_eq_true (lg_eq.mp c_118)).symm)
                | (rw [hz.2, if_neg c_81, if_neg c_101]; exact (decide_eq_false (fun q => c_118 (lg_eq.mpr q))).symm)
            · refine G.goto (tgt := 121) dX6_positiveOf_111 (by decide) ?_
              refine G.iconst (v := nI 1) dX6_positiveOf_121 (by decide) ?_
              refine G.goto (tgt := 126) dX6_positiveOf_122 (by decide) ?_
              refine G.ireturn dX6_positiveOf_126 ?_ (hn := by first | rfl | exact bI_nar _)
              first
              | refine ⟨_, rfl, _, rfl, true, rfl, hxx, hg2, hB, ?_⟩
              | refine ⟨_, rfl, _, rfl, false, rfl, hxx, hg2, hB, ?_⟩
              intro h1 h2 v h
              have hz := z2 h1 h2 v h
              first
                | exact (Bool.false_ne_true (c_64.symm.trans h1)).elim
                | exact (Bool.false_ne_true (hz.1.symm.trans c_71)).elim
                | (rw [hz.2, if_pos c_81]; exact (decide_eq_true (by simpa only [lg_ge, Int64.not_le] using c_88)).symm)
                | (rw [hz.2, if_pos c_81]; exact (decide_eq_false (by simpa only [lg_ge, Int64.not_lt] using c_88)).symm)
                | (rw [hz.2, if_neg c_81, if_pos c_101]; exact (decide_eq_true (by simpa only [lg_le, Int64.not_le] using c_108)).symm)
                | (rw [hz.2, if_neg c_81, if_pos c_101]; exact (decide_eq_false (by simpa only [lg_le, Int64.not_lt] using c_108)).symm)
                | (rw [hz.2, if_neg c_81, if_neg c_101]; exact (decide_eq_true (lg_eq.mp c_118)).symm)
                | (rw [hz.2, if_neg c_81, if_neg c_101]; exact (decide_eq_false (fun q => c_118 (lg_eq.mpr q))).symm)
        · refine G.lload_n2 dX6_positiveOf_84 ?_
          refine G.lload5 dX6_positiveOf_85 ?_
          refine G.lcmp dX6_positiveOf_87 ?_
          refine G.if_ge (tgt := 125) dX6_positiveOf_88 (by decide) (fun c_88 => ?_) (fun c_88 => ?_)
          · refine G.iconst (v := nI 0) dX6_positiveOf_125 (by decide) ?_
            refine G.ireturn dX6_positiveOf_126 ?_ (hn := by first | rfl | exact bI_nar _)
            first
            | refine ⟨_, rfl, _, rfl, true, rfl, hxx, hg2, hB, ?_⟩
            | refine ⟨_, rfl, _, rfl, false, rfl, hxx, hg2, hB, ?_⟩
            intro h1 h2 v h
            have hz := z2 h1 h2 v h
            first
              | exact (Bool.false_ne_true (c_64.symm.trans h1)).elim
              | exact (Bool.false_ne_true (hz.1.symm.trans c_71)).elim
              | (rw [hz.2, if_pos c_81]; exact (decide_eq_true (by simpa only [lg_ge, Int64.not_le] using c_88)).symm)
              | (rw [hz.2, if_pos c_81]; exact (decide_eq_false (by simpa only [lg_ge, Int64.not_lt] using c_88)).symm)
              | (rw [hz.2, if_neg c_81, if_pos c_101]; exact (decide_eq_true (by simpa only [lg_le, Int64.not_le] using c_108)).symm)
              | (rw [hz.2, if_neg c_81, if_pos c_101]; exact (decide_eq_false (by simpa only [lg_le, Int64.not_lt] using c_108)).symm)
              | (rw [hz.2, if_neg c_81, if_neg c_101]; exact (decide_eq_true (lg_eq.mp c_118)).symm)
              | (rw [hz.2, if_neg c_81, if_neg c_101]; exact (decide_eq_false (fun q => c_118 (lg_eq.mpr q))).symm)
          · refine G.goto (tgt := 121) dX6_positiveOf_91 (by decide) ?_
            refine G.iconst (v := nI 1) dX6_positiveOf_121 (by decide) ?_
            refine G.goto (tgt := 126) dX6_positiveOf_122 (by decide) ?_
            refine G.ireturn dX6_positiveOf_126 ?_ (hn := by first | rfl | exact bI_nar _)
            first
            | refine ⟨_, rfl, _, rfl, true, rfl, hxx, hg2, hB, ?_⟩
            | refine ⟨_, rfl, _, rfl, false, rfl, hxx, hg2, hB, ?_⟩
            intro h1 h2 v h
            have hz := z2 h1 h2 v h
            first
              | exact (Bool.false_ne_true (c_64.symm.trans h1)).elim
              | exact (Bool.false_ne_true (hz.1.symm.trans c_71)).elim
              | (rw [hz.2, if_pos c_81]; exact (decide_eq_true (by simpa only [lg_ge, Int64.not_le] using c_88)).symm)
              | (rw [hz.2, if_pos c_81]; exact (decide_eq_false (by simpa only [lg_ge, Int64.not_lt] using c_88)).symm)
              | (rw [hz.2, if_neg c_81, if_pos c_101]; exact (decide_eq_true (by simpa only [lg_le, Int64.not_le] using c_108)).symm)
              | (rw [hz.2, if_neg c_81, if_pos c_101]; exact (decide_eq_false (by simpa only [lg_le, Int64.not_lt] using c_108)).symm)
              | (rw [hz.2, if_neg c_81, if_neg c_101]; exact (decide_eq_true (lg_eq.mp c_118)).symm)
              | (rw [hz.2, if_neg c_81, if_neg c_101]; exact (decide_eq_false (fun q => c_118 (lg_eq.mpr q))).symm)
  · have q := of_decide_eq_true c_9
    rw [if_pos q]
    obtain ⟨g, p1, hg, hg2, hcl, rfl⟩ := pPos_open hP q
    refine G.aload_n0 dX6_positiveOf_12 ?_
    refine G.iload_n1 dX6_positiveOf_13 ?_
    refine G.mcall (f' := fX6_testOf (dt)) q2151 (ck_X6_testOf _) ((hsub g hg).1 (ms M 22 (nI (B + pos + 1))) (pos + 1) lv s p1 l live b (hC.mv (mX.rf.ms (by decide))) hg2 rfl hb) dX6_positiveOf_14 (rI.k fun r_14 M_14 h_14 => ?_) (hroom := jroom_of rfl rfl (by omega) (Nat.le_of_ble_eq_true rfl))
    obtain ⟨rb, rfl, hx, hg', hb', hv⟩ := h_14
    refine G.istore_n2 dX6_positiveOf_17 ?_
    refine G.aload_n0 dX6_positiveOf_18 ?_
    refine G.dup dX6_positiveOf_19 rfl ?_
    refine G.mgeti 22 fl_X6_248 dX6_positiveOf_20 ?_
    rw [hg']
    refine G.iconst (v := nI 1) dX6_positiveOf_23 (by decide) ?_
    first | with_reducible refine G.iaddn dX6_positiveOf_24 ?_ | refine G.iadd dX6_positiveOf_24 ?_
    refine G.mputi 22 fp_X6_248 dX6_positiveOf_25 ?_
    refine G.iload_n2 dX6_positiveOf_28 ?_
    refine G.ireturn dX6_positiveOf_29 ?_ (hn := by first | rfl | exact bI_nar _)
    exact ⟨_, rfl, _, rfl, rb, rfl, ((mX.rf.ms (by decide)).tr hx (by simp) (by simp)).ms (by decide), rfl, hb', hv⟩

theorem z_not {live b nb : Bool} {t : Ts} {e : En} : zB live b (zNot nb t e) = zB live b (t e) ∧ ∀ v, zNot nb t e = some v → ∃ w, t e = some w ∧ v = (w != nb) := by
  unfold zNot
  cases h : t e with
  | none => exact ⟨by unfold zB; rfl, fun v h => by cases h⟩
  | some w => exact ⟨by rw [zB_some, zB_some], fun v h => by cases h; exact ⟨w, rfl, rfl⟩⟩
theorem e_plain {dq : Nat} {sm : Nat → Nat → Rs Sm} {sub : Option (Nat → Nat → Rs Ts)} (hdq : 10 ≤ dq) (hN : N ≤ 401) (hk0 : tkOk tk N) (hps : EvT E (fX6_positiveOf dq) L ph (pPos tk sm sub) B N tk ord e n) (hQ : ∀ pos lv s p l, pPos tk sm sub pos lv = .inr (s, p, l) → True ∧ pos < p ∧ p ≤ N) : EvT E (fX6_plainOf (dq + 1)) L ph (pPlain tk sm sub) B N tk ord e n := by
  intro M pos lv s p l live b hC hP hgo hb
  have hBN : B + N ≤ 2800 := hC.1
  obtain ⟨t, hP2, rfl⟩ := pPlain_of hP
  have hle := hQ _ _ _ _ _ hP2
  have hposN : pos ≤ N := by
    rcases Nat.lt_or_ge N pos with q | q
    · exfalso
      have : (pNots tk 402 false pos).2 = pos := by
        rw [pNots, if_neg]
        intro z
        have := tk_in hk0 (by decide) (by decide) z
        omega
      omega
    · exact q
  generalize hnn : pNots tk 402 false pos = np at hP2 ⊢
  obtain ⟨nb, pp⟩ := np
  have loop : ∀ (k : Nat) (bb : Bool) (pos2 : Nat) (M2 : MM), mX [22, 24] [] M M2 → M2.1 22 = nI (B + pos2) → M2.1 24 = bI b → pos2 ≤ N → N < pos2 + k → pNots tk k bb pos2 = (nb, pp) → G E (fX6_plainOf (dq + 1)) (mFin E (fX6_plainOf (dq + 1)) L ph (rI fun r M' => ∃ rb : Bool, r = bI rb ∧ mX [22, 24] [] M M' ∧ M'.1 22 = nI (B + p) ∧ M'.1 24 = bI (zB live b (zNot nb t e)) ∧ (live = true → b = false → ∀ v, zNot nb t e = some v → rb = v))) 2 [some (.ref (L.1 52)), some (.int (bI live)), some (.int (bI bb))] [] (movl L M2 ph) 0 0 := by
    intro k
    induction k with
    | zero => intro bb pos2 M2 _ _ _ h1 h2; omega
    | succ k ih =>
      intro bb pos2 M2 hx h22 h24 h1 h2 h
      rw [pNots] at h
      refine G.aload_n0 dX6_plainOf_2 ?_
      refine G.bipush (v := nI 9) dX6_plainOf_3 (by decide) ?_
      refine G.mcall (f' := fX6_passes0) q2140 ck_X6_passes0 (c_X6_passes0 (pos := pos2) (nI 9) (hC.mv hx) h1 h22) dX6_plainOf_5 (rI.k fun r_5 M_5 h_5 => ?_) (hroom := jroom_of rfl rfl (by omega) (Nat.le_of_ble_eq_true rfl))
      obtain ⟨e_5, h_5⟩ := h_5; replace e_5 := e_5.symm; replace h_5 := h_5.symm; subst e_5; subst h_5
      refine G.ifb_eq (tgt := 24) dX6_plainOf_8 (by decide) (fun c_8 => ?_) (fun c_8 => ?_)
      · have q := of_decide_eq_false c_8
        rw [if_neg q] at h ⊢
        have e1 : bb = nb := congrArg Prod.fst h
        have e2 : pos2 = pp := congrArg Prod.snd h
        subst e1; subst e2
        refine G.aload_n0 dX6_plainOf_24 ?_
        refine G.iload_n1 dX6_plainOf_25 ?_
        refine G.mcall (f' := fX6_positiveOf (dq)) q2163 (ck_X6_positiveOf _) (hps M2 pos2 lv t p l live b (hC.mv hx) hP2 h22 h24) dX6_plainOf_26 (rI.k fun r_26 M_26 h_26 => ?_) (hroom := jroom_of rfl rfl (by omega) (Nat.le_of_ble_eq_true rfl))
        obtain ⟨rb, rfl, hx2, hg2, hb2, hv2⟩ := h_26
        obtain ⟨z1, z2⟩ := z_not (live := live) (b := b) (nb := bb) (t := t) (e := e)
        refine G.iload_n2 dX6_plainOf_29 ?_
        refine G.icmp_eq (tgt := 37) dX6_plainOf_30 (by decide) (fun c_30 => ?_) (fun c_30 => ?_)
        · refine G.iconst (v := nI 0) dX6_plainOf_37 (by decide) ?_
          refine G.ireturn dX6_plainOf_38 ?_ (hn := by first | rfl | exact bI_nar _)
          first
          | refine ⟨_, rfl, _, rfl, false, rfl, hx.tr hx2 (by simp) (by simp), hg2, ?_, ?_⟩
          | refine ⟨_, rfl, _, rfl, true, rfl, hx.tr hx2 (by simp) (by simp), hg2, ?_, ?_⟩
          · rw [hb2, z1]
          · intro h1 h2 v h
            obtain ⟨w, g1, g2⟩ := z2 v h
            have g3 := hv2 h1 h2 w g1
            subst g2; subst g3
            first
              | (rw [bI_inj.mp c_30]; simp; done)
              | (have g4 : ¬ rb = bb := fun q => c_30 (bI_inj.mpr q)
                 revert g4; cases rb <;> cases bb <;> simp)
        · refine G.iconst (v := nI 1) dX6_plainOf_33 (by decide) ?_
          refine G.goto (tgt := 38) dX6_plainOf_34 (by decide) ?_
          refine G.ireturn dX6_plainOf_38 ?_ (hn := by first | rfl | exact bI_nar _)
          first
          | refine ⟨_, rfl, _, rfl, false, rfl, hx.tr hx2 (by simp) (by simp), hg2, ?_, ?_⟩
          | refine ⟨_, rfl, _, rfl, true, rfl, hx.tr hx2 (by simp) (by simp), hg2, ?_, ?_⟩
          · rw [hb2, z1]
          · intro h1 h2 v h
            obtain ⟨w, g1, g2⟩ := z2 v h
            have g3 := hv2 h1 h2 w g1
            subst g2; subst g3
            first
              | (rw [bI_inj.mp c_30]; simp; done)
              | (have g4 : ¬ rb = bb := fun q => c_30 (bI_inj.mpr q)
                 revert g4; cases rb <;> cases bb <;> simp)
      · have q := of_decide_eq_true c_8
        rw [if_pos q] at h ⊢
        have hN2 := tk_in hk0 (by decide) (by decide) q
        refine G.iload_n2 dX6_plainOf_11 ?_
        refine G.ifb_ne (tgt := 19) dX6_plainOf_12 (by decide) (fun c_12 => ?_) (fun c_12 => ?_)
        · refine G.iconst (v := nI 0) dX6_plainOf_19 (by decide) ?_
          refine G.istore_n2 dX6_plainOf_20 ?_
          refine G.goto (tgt := 2) dX6_plainOf_21 (by decide) ?_
          first
          | exact ih true (pos2 + 1) _ (hx.ms (by decide)) rfl h24 (by omega) (by omega) ((congrArg (fun z => pNots tk k (!z) (pos2 + 1)) c_12.symm).trans h)
          | exact ih false (pos2 + 1) _ (hx.ms (by decide)) rfl h24 (by omega) (by omega) ((congrArg (fun z => pNots tk k (!z) (pos2 + 1)) c_12.symm).trans h)
        · refine G.iconst (v := nI 1) dX6_plainOf_15 (by decide) ?_
          refine G.goto (tgt := 20) dX6_plainOf_16 (by decide) ?_
          refine G.istore_n2 dX6_plainOf_20 ?_
          refine G.goto (tgt := 2) dX6_plainOf_21 (by decide) ?_
          first
          | exact ih true (pos2 + 1) _ (hx.ms (by decide)) rfl h24 (by omega) (by omega) ((congrArg (fun z => pNots tk k (!z) (pos2 + 1)) c_12.symm).trans h)
          | exact ih false (pos2 + 1) _ (hx.ms (by decide)) rfl h24 (by omega) (by omega) ((congrArg (fun z => pNots tk k (!z) (pos2 + 1)) c_12.symm).trans h)
  refine Ct.of [some (.ref (L.1 52)), some (.int (bI live)), none] rfl (Nat.le_of_ble_eq_true rfl) (show plainName RX6 = true by decide +kernel) rfl ?_
  refine G.iconst (v := nI 0) dX6_plainOf_0 (by decide) ?_
  refine G.istore_n2 dX6_plainOf_1 ?_
  exact loop 402 false pos M mX.rf hgo hb hposN (by omega) hnn

theorem z_both {live b v w : Bool} {acc s1 : Ts} {e : En} (hv : live = true → b = false → ∀ x, acc e = some x → v = x) (hw : (live && v) = true → zB live b (acc e) = false → ∀ x, s1 e = some x → w = x) : zB (live && v) (zB live b (acc e)) (s1 e) = zB live b (zAnd acc s1 e) ∧ (live = true → b = false → ∀ x, zAnd acc s1 e = some x → (v && w) = x) := by
  by_cases hd : live = false ∨ b = true
  · have e0 : zB live b (acc e) = b := zB_dead hd
    refine ⟨by rw [e0, zB_dead hd, zB_dead (hd.imp (fun h => by rw [h]; rfl) id)], fun h1 h2 => ?_⟩
    rcases hd with h | h
    · rw [h] at h1; cases h1
    · rw [h] at h2; cases h2
  · have hl : live = true := by cases live <;> simp at hd ⊢
    have hb : b = false := by cases b <;> simp at hd ⊢
    have e0 : zB live b (acc e) = (acc e).isNone := zB_or hl hb
    cases h1 : acc e with
    | none =>
      have hz : zAnd acc s1 e = none := by unfold zAnd; rw [h1]
      rw [hz, zB_or hl hb]
      exact ⟨zB_dead (Or.inr rfl), fun _ _ x h => by cases h⟩
    | some x1 =>
      have hx := hv hl hb x1 h1
      have e0' : zB live b (acc e) = false := by rw [e0, h1]; rfl
      rw [← h1, e0']
      rw [e0', hl] at hw
      have hz : zAnd acc s1 e = if x1 then s1 e else some false := by unfold zAnd; rw [h1]
      rw [hz]
      subst hx; subst hl; subst hb
      cases v with
      | true => cases h2 : s1 e <;> simp [h2, zB] at hw ⊢ <;> first | exact hw | (cases w <;> simp_all) | simp_all
      | false => cases h2 : s1 e <;> simp [h2, zB] at hw ⊢ <;> first | exact hw | (cases w <;> simp_all) | simp_all
theorem e_both {dp : Nat} {one : Nat → Nat → Rs Ts} (hdp : 10 ≤ dp) (hone : EvT E (fX6_plainOf dp) L ph one B N tk ord e n) (hQ : ∀ pos lv s p l, one pos lv = .inr (s, p, l) → True ∧ pos < p ∧ p ≤ N) : EvT E (fX6_bothOf (dp + 1)) L ph (pRows tk isAnd (fun _ => zAnd) one) B N tk ord e n := by
  intro M pos lv s p l live b hC hP hgo hb
  obtain ⟨s0, p0, l0, hP0, hPr⟩ := pRows_of hP
  obtain ⟨-, hlt0, hle0⟩ := hQ _ _ _ _ _ hP0
  have hBN : B + N ≤ 2800 := hC.1
  have loop : ∀ (k : Nat) (acc : Ts) (M2 : MM) (pos2 lv2 : Nat) (v : Bool) (a3 : Option Value), mX [22, 24] [] M M2 → M2.1 22 = nI (B + pos2) → M2.1 24 = bI (zB live b (acc e)) → (live = true → b = false → ∀ x, acc e = some x → v = x) → pos2 ≤ N → pRow tk isAnd (fun _ => zAnd) one k acc pos2 lv2 = .inr (s, p, l) → G E (fX6_bothOf (dp + 1)) (mFin E (fX6_bothOf (dp + 1)) L ph (rI fun r M' => ∃ rb : Bool, r = bI rb ∧ mX [22, 24] [] M M' ∧ M'.1 22 = nI (B + p) ∧ M'.1 24 = bI (zB live b (s e)) ∧ (live = true → b = false → ∀ v, s e = some v → rb = v))) 6 [some (.ref (L.1 52)), some (.int (bI live)), some (.int (bI v)), a3] [] (movl L M2 ph) 0 0 := by
    intro k
    induction k with
    | zero => intro acc M2 pos2 lv2 v a3 _ _ _ _ _ h; simp [pRow] at h
    | succ k ih =>
      intro acc M2 pos2 lv2 v a3 hx h22 h24 hv hle h
      refine G.aload_n0 dX6_bothOf_6 ?_
      refine G.bipush (v := nI 8) dX6_bothOf_7 (by decide) ?_
      refine G.mcall (f' := fX6_passes0) q2140 ck_X6_passes0 (c_X6_passes0 (pos := pos2) (nI 8) (hC.mv hx) hle h22) dX6_bothOf_9 (rI.k fun r_9 M_9 h_9 => ?_) (hroom := jroom_of rfl rfl (by omega) (Nat.le_of_ble_eq_true rfl))
      obtain ⟨e_9, h_9⟩ := h_9; replace e_9 := e_9.symm; replace h_9 := h_9.symm; subst e_9; subst h_9
      refine G.ifb_eq (tgt := 50) dX6_bothOf_12 (by decide) (fun c_12 => ?_) (fun c_12 => ?_)
      · have q := of_decide_eq_false c_12
        rw [if_neg q]
        obtain ⟨rfl, rfl, rfl⟩ := pRow_end h (show isAnd (tk.1 pos2) = false from decide_eq_false q)
        refine G.iload_n2 dX6_bothOf_50 ?_
        refine G.ireturn dX6_bothOf_51 ?_ (hn := by first | rfl | exact bI_nar _)
        exact ⟨_, rfl, _, rfl, v, rfl, hx, h22, h24, hv⟩
      · have q := of_decide_eq_true c_12
        rw [if_pos q]
        obtain ⟨s1, p1, l1, h1, h2⟩ := pRow_on h (show isAnd (tk.1 pos2) = true from decide_eq_true q)
        obtain ⟨-, hlt1, hle1⟩ := hQ _ _ _ _ _ h1
        refine G.aload_n0 dX6_bothOf_15 ?_
        refine G.iload_n1 dX6_bothOf_16 ?_
        refine G.ifb_eq (tgt := 28) dX6_bothOf_17 (by decide) (fun c_17 => ?_) (fun c_17 => ?_)
        · refine G.iconst (v := nI 0) dX6_bothOf_28 (by decide) ?_
          refine G.topi (bI (live && v)) (by first | exact bI_ff (by rw [c_17]; rfl) | exact bI_ff (by rw [c_21]; simp) | exact bI_tt (by rw [c_17, c_21]; rfl)) ?_
          refine G.mcall (f' := fX6_plainOf (dp)) q2159 (ck_X6_plainOf _) (hone (ms M2 22 (nI (B + pos2 + 1))) (pos2 + 1) lv2 s1 p1 l1 (live && v) (zB live b (acc e)) ((hC.mv hx).mv (mX.rf.ms (by decide))) h1 rfl h24) dX6_bothOf_29 (rI.k fun r_29 M_29 h_29 => ?_) (hroom := jroom_of rfl rfl (by omega) (Nat.le_of_ble_eq_true rfl))
          obtain ⟨rb, rfl, hx3, hg3, hb3, hv3⟩ := h_29
          obtain ⟨z1, z2⟩ := z_both hv hv3
          refine G.istore_n3 dX6_bothOf_32 ?_
          refine G.iload_n2 dX6_bothOf_33 ?_
          refine G.ifb_eq (tgt := 45) dX6_bothOf_34 (by decide) (fun c_34 => ?_) (fun c_34 => ?_)
          · refine G.iconst (v := nI 0) dX6_bothOf_45 (by decide) ?_
            refine G.istore_n2 dX6_bothOf_46 ?_
            refine G.goto (tgt := 6) dX6_bothOf_47 (by decide) ?_
            first
            | exact ih (zAnd acc s1) _ p1 l1 true _ ((hx.ms (by decide)).tr hx3 (by simp) (by simp)) hg3 (by rw [hb3, z1]) (fun g1 g2 x g => by rw [← z2 g1 g2 x g]; simp_all) hle1 h2
            | exact ih (zAnd acc s1) _ p1 l1 false _ ((hx.ms (by decide)).tr hx3 (by simp) (by simp)) hg3 (by rw [hb3, z1]) (fun g1 g2 x g => by rw [← z2 g1 g2 x g]; simp_all) hle1 h2
          · refine G.iload_n3 dX6_bothOf_37 ?_
            refine G.ifb_eq (tgt := 45) dX6_bothOf_38 (by decide) (fun c_38 => ?_) (fun c_38 => ?_)
            · refine G.iconst (v := nI 0) dX6_bothOf_45 (by decide) ?_
              refine G.istore_n2 dX6_bothOf_46 ?_
              refine G.goto (tgt := 6) dX6_bothOf_47 (by decide) ?_
              first
              | exact ih (zAnd acc s1) _ p1 l1 true _ ((hx.ms (by decide)).tr hx3 (by simp) (by simp)) hg3 (by rw [hb3, z1]) (fun g1 g2 x g => by rw [← z2 g1 g2 x g]; simp_all) hle1 h2
              | exact ih (zAnd acc s1) _ p1 l1 false _ ((hx.ms (by decide)).tr hx3 (by simp) (by simp)) hg3 (by rw [hb3, z1]) (fun g1 g2 x g => by rw [← z2 g1 g2 x g]; simp_all) hle1 h2
            · refine G.iconst (v := nI 1) dX6_bothOf_41 (by decide) ?_
              refine G.goto (tgt := 46) dX6_bothOf_42 (by decide) ?_
              refine G.istore_n2 dX6_bothOf_46 ?_
              refine G.goto (tgt := 6) dX6_bothOf_47 (by decide) ?_
              first
              | exact ih (zAnd acc s1) _ p1 l1 true _ ((hx.ms (by decide)).tr hx3 (by simp) (by simp)) hg3 (by rw [hb3, z1]) (fun g1 g2 x g => by rw [← z2 g1 g2 x g]; simp_all) hle1 h2
              | exact ih (zAnd acc s1) _ p1 l1 false _ ((hx.ms (by decide)).tr hx3 (by simp) (by simp)) hg3 (by rw [hb3, z1]) (fun g1 g2 x g => by rw [← z2 g1 g2 x g]; simp_all) hle1 h2
        · refine G.iload_n2 dX6_bothOf_20 ?_
          refine G.ifb_eq (tgt := 28) dX6_bothOf_21 (by decide) (fun c_21 => ?_) (fun c_21 => ?_)
          · refine G.iconst (v := nI 0) dX6_bothOf_28 (by decide) ?_
            refine G.topi (bI (live && v)) (by first | exact bI_ff (by rw [c_17]; rfl) | exact bI_ff (by rw [c_21]; simp) | exact bI_tt (by rw [c_17, c_21]; rfl)) ?_
            refine G.mcall (f' := fX6_plainOf (dp)) q2159 (ck_X6_plainOf _) (hone (ms M2 22 (nI (B + pos2 + 1))) (pos2 + 1) lv2 s1 p1 l1 (live && v) (zB live b (acc e)) ((hC.mv hx).mv (mX.rf.ms (by decide))) h1 rfl h24) dX6_bothOf_29 (rI.k fun r_29 M_29 h_29 => ?_) (hroom := jroom_of rfl rfl (by omega) (Nat.le_of_ble_eq_true rfl))
            obtain ⟨rb, rfl, hx3, hg3, hb3, hv3⟩ := h_29
            obtain ⟨z1, z2⟩ := z_both hv hv3
            refine G.istore_n3 dX6_bothOf_32 ?_
            refine G.iload_n2 dX6_bothOf_33 ?_
            refine G.ifb_eq (tgt := 45) dX6_bothOf_34 (by decide) (fun c_34 => ?_) (fun c_34 => ?_)
            · refine G.iconst (v := nI 0) dX6_bothOf_45 (by decide) ?_
              refine G.istore_n2 dX6_bothOf_46 ?_
              refine G.goto (tgt := 6) dX6_bothOf_47 (by decide) ?_
              first
              | exact ih (zAnd acc s1) _ p1 l1 true _ ((hx.ms (by decide)).tr hx3 (by simp) (by simp)) hg3 (by rw [hb3, z1]) (fun g1 g2 x g => by rw [← z2 g1 g2 x g]; simp_all) hle1 h2
              | exact ih (zAnd acc s1) _ p1 l1 false _ ((hx.ms (by decide)).tr hx3 (by simp) (by simp)) hg3 (by rw [hb3, z1]) (fun g1 g2 x g => by rw [← z2 g1 g2 x g]; simp_all) hle1 h2
            · refine G.iload_n3 dX6_bothOf_37 ?_
              refine G.ifb_eq (tgt := 45) dX6_bothOf_38 (by decide) (fun c_38 => ?_) (fun c_38 => ?_)
              · refine G.iconst (v := nI 0) dX6_bothOf_45 (by decide) ?_
                refine G.istore_n2 dX6_bothOf_46 ?_
                refine G.goto (tgt := 6) dX6_bothOf_47 (by decide) ?_
                first
                | exact ih (zAnd acc s1) _ p1 l1 true _ ((hx.ms (by decide)).tr hx3 (by simp) (by simp)) hg3 (by rw [hb3, z1]) (fun g1 g2 x g => by rw [← z2 g1 g2 x g]; simp_all) hle1 h2
                | exact ih (zAnd acc s1) _ p1 l1 false _ ((hx.ms (by decide)).tr hx3 (by simp) (by simp)) hg3 (by rw [hb3, z1]) (fun g1 g2 x g => by rw [← z2 g1 g2 x g]; simp_all) hle1 h2
              · refine G.iconst (v := nI 1) dX6_bothOf_41 (by decide) ?_
                refine G.goto (tgt := 46) dX6_bothOf_42 (by decide) ?_
                refine G.istore_n2 dX6_bothOf_46 ?_
                refine G.goto (tgt := 6) dX6_bothOf_47 (by decide) ?_
                first
                | exact ih (zAnd acc s1) _ p1 l1 true _ ((hx.ms (by decide)).tr hx3 (by simp) (by simp)) hg3 (by rw [hb3, z1]) (fun g1 g2 x g => by rw [← z2 g1 g2 x g]; simp_all) hle1 h2
                | exact ih (zAnd acc s1) _ p1 l1 false _ ((hx.ms (by decide)).tr hx3 (by simp) (by simp)) hg3 (by rw [hb3, z1]) (fun g1 g2 x g => by rw [← z2 g1 g2 x g]; simp_all) hle1 h2
          · refine G.iconst (v := nI 1) dX6_bothOf_24 (by decide) ?_
            refine G.goto (tgt := 29) dX6_bothOf_25 (by decide) ?_
            refine G.topi (bI (live && v)) (by first | exact bI_ff (by rw [c_17]; rfl) | exact bI_ff (by rw [c_21]; simp) | exact bI_tt (by rw [c_17, c_21]; rfl)) ?_
            refine G.mcall (f' := fX6_plainOf (dp)) q2159 (ck_X6_plainOf _) (hone (ms M2 22 (nI (B + pos2 + 1))) (pos2 + 1) lv2 s1 p1 l1 (live && v) (zB live b (acc e)) ((hC.mv hx).mv (mX.rf.ms (by decide))) h1 rfl h24) dX6_bothOf_29 (rI.k fun r_29 M_29 h_29 => ?_) (hroom := jroom_of rfl rfl (by omega) (Nat.le_of_ble_eq_true rfl))
            obtain ⟨rb, rfl, hx3, hg3, hb3, hv3⟩ := h_29
            obtain ⟨z1, z2⟩ := z_both hv hv3
            refine G.istore_n3 dX6_bothOf_32 ?_
            refine G.iload_n2 dX6_bothOf_33 ?_
            refine G.ifb_eq (tgt := 45) dX6_bothOf_34 (by decide) (fun c_34 => ?_) (fun c_34 => ?_)
            · refine G.iconst (v := nI 0) dX6_bothOf_45 (by decide) ?_
              refine G.istore_n2 dX6_bothOf_46 ?_
              refine G.goto (tgt := 6) dX6_bothOf_47 (by decide) ?_
              first
              | exact ih (zAnd acc s1) _ p1 l1 true _ ((hx.ms (by decide)).tr hx3 (by simp) (by simp)) hg3 (by rw [hb3, z1]) (fun g1 g2 x g => by rw [← z2 g1 g2 x g]; simp_all) hle1 h2
              | exact ih (zAnd acc s1) _ p1 l1 false _ ((hx.ms (by decide)).tr hx3 (by simp) (by simp)) hg3 (by rw [hb3, z1]) (fun g1 g2 x g => by rw [← z2 g1 g2 x g]; simp_all) hle1 h2
            · refine G.iload_n3 dX6_bothOf_37 ?_
              refine G.ifb_eq (tgt := 45) dX6_bothOf_38 (by decide) (fun c_38 => ?_) (fun c_38 => ?_)
              · refine G.iconst (v := nI 0) dX6_bothOf_45 (by decide) ?_
                refine G.istore_n2 dX6_bothOf_46 ?_
                refine G.goto (tgt := 6) dX6_bothOf_47 (by decide) ?_
                first
                | exact ih (zAnd acc s1) _ p1 l1 true _ ((hx.ms (by decide)).tr hx3 (by simp) (by simp)) hg3 (by rw [hb3, z1]) (fun g1 g2 x g => by rw [← z2 g1 g2 x g]; simp_all) hle1 h2
                | exact ih (zAnd acc s1) _ p1 l1 false _ ((hx.ms (by decide)).tr hx3 (by simp) (by simp)) hg3 (by rw [hb3, z1]) (fun g1 g2 x g => by rw [← z2 g1 g2 x g]; simp_all) hle1 h2
              · refine G.iconst (v := nI 1) dX6_bothOf_41 (by decide) ?_
                refine G.goto (tgt := 46) dX6_bothOf_42 (by decide) ?_
                refine G.istore_n2 dX6_bothOf_46 ?_
                refine G.goto (tgt := 6) dX6_bothOf_47 (by decide) ?_
                first
                | exact ih (zAnd acc s1) _ p1 l1 true _ ((hx.ms (by decide)).tr hx3 (by simp) (by simp)) hg3 (by rw [hb3, z1]) (fun g1 g2 x g => by rw [← z2 g1 g2 x g]; simp_all) hle1 h2
                | exact ih (zAnd acc s1) _ p1 l1 false _ ((hx.ms (by decide)).tr hx3 (by simp) (by simp)) hg3 (by rw [hb3, z1]) (fun g1 g2 x g => by rw [← z2 g1 g2 x g]; simp_all) hle1 h2
  refine Ct.of [some (.ref (L.1 52)), some (.int (bI live)), none, none] rfl (Nat.le_of_ble_eq_true rfl) (show plainName RX6 = true by decide +kernel) rfl ?_
  refine G.aload_n0 dX6_bothOf_0 ?_
  refine G.iload_n1 dX6_bothOf_1 ?_
  refine G.mcall (f' := fX6_plainOf (dp)) q2159 (ck_X6_plainOf _) (hone M pos lv s0 p0 l0 live b hC hP0 hgo hb) dX6_bothOf_2 (rI.k fun r_2 M_2 h_2 => ?_) (hroom := jroom_of rfl rfl (by omega) (Nat.le_of_ble_eq_true rfl))
  obtain ⟨rb, rfl, hx, hg', hb', hv⟩ := h_2
  refine G.istore_n2 dX6_bothOf_5 ?_
  exact loop 402 s0 _ p0 l0 rb _ hx hg' hb' hv hle0 hPr

theorem z_test {live b v w : Bool} {acc s1 : Ts} {e : En} (hv : live = true → b = false → ∀ x, acc e = some x → v = x) (hw : (live && !v) = true → zB live b (acc e) = false → ∀ x, s1 e = some x → w = x) : zB (live && !v) (zB live b (acc e)) (s1 e) = zB live b (zOr acc s1 e) ∧ (live = true → b = false → ∀ x, zOr acc s1 e = some x → (v || w) = x) := by
  by_cases hd : live = false ∨ b = true
  · have e0 : zB live b (acc e) = b := zB_dead hd
    refine ⟨by rw [e0, zB_dead hd, zB_dead (hd.imp (fun h => by rw [h]; rfl) id)], fun h1 h2 => ?_⟩
    rcases hd with h | h
    · rw [h] at h1; cases h1
    · rw [h] at h2; cases h2
  · have hl : live = true := by cases live <;> simp at hd ⊢
    have hb : b = false := by cases b <;> simp at hd ⊢
    have e0 : zB live b (acc e) = (acc e).isNone := zB_or hl hb
    cases h1 : acc e with
    | none =>
      have hz : zOr acc s1 e = none := by unfold zOr; rw [h1]
      rw [hz, zB_or hl hb]
      exact ⟨zB_dead (Or.inr rfl), fun _ _ x h => by cases h⟩
    | some x1 =>
      have hx := hv hl hb x1 h1
      have e0' : zB live b (acc e) = false := by rw [e0, h1]; rfl
      rw [← h1, e0']
      rw [e0', hl] at hw
      have hz : zOr acc s1 e = if x1 then some true else s1 e := by unfold zOr; rw [h1]
      rw [hz]
      subst hx; subst hl; subst hb
      cases v with
      | true => cases h2 : s1 e <;> simp [h2, zB] at hw ⊢ <;> first | exact hw | (cases w <;> simp_all) | simp_all
      | false => cases h2 : s1 e <;> simp [h2, zB] at hw ⊢ <;> first | exact hw | (cases w <;> simp_all) | simp_all
theorem e_test {dp : Nat} {one : Nat → Nat → Rs Ts} (hdp : 10 ≤ dp) (hone : EvT E (fX6_bothOf dp) L ph one B N tk ord e n) (hQ : ∀ pos lv s p l, one pos lv = .inr (s, p, l) → True ∧ pos < p ∧ p ≤ N) : EvT E (fX6_testOf (dp + 1)) L ph (pRows tk isOr (fun _ => zOr) one) B N tk ord e n := by
  intro M pos lv s p l live b hC hP hgo hb
  obtain ⟨s0, p0, l0, hP0, hPr⟩ := pRows_of hP
  obtain ⟨-, hlt0, hle0⟩ := hQ _ _ _ _ _ hP0
  have hBN : B + N ≤ 2800 := hC.1
  have loop : ∀ (k : Nat) (acc : Ts) (M2 : MM) (pos2 lv2 : Nat) (v : Bool) (a3 : Option Value), mX [22, 24] [] M M2 → M2.1 22 = nI (B + pos2) → M2.1 24 = bI (zB live b (acc e)) → (live = true → b = false → ∀ x, acc e = some x → v = x) → pos2 ≤ N → pRow tk isOr (fun _ => zOr) one k acc pos2 lv2 = .inr (s, p, l) → G E (fX6_testOf (dp + 1)) (mFin E (fX6_testOf (dp + 1)) L ph (rI fun r M' => ∃ rb : Bool, r = bI rb ∧ mX [22, 24] [] M M' ∧ M'.1 22 = nI (B + p) ∧ M'.1 24 = bI (zB live b (s e)) ∧ (live = true → b = false → ∀ v, s e = some v → rb = v))) 6 [some (.ref (L.1 52)), some (.int (bI live)), some (.int (bI v)), a3] [] (movl L M2 ph) 0 0 := by
    intro k
    induction k with
    | zero => intro acc M2 pos2 lv2 v a3 _ _ _ _ _ h; simp [pRow] at h
    | succ k ih =>
      intro acc M2 pos2 lv2 v a3 hx h22 h24 hv hle h
      refine G.aload_n0 dX6_testOf_6 ?_
      refine G.bipush (v := nI 7) dX6_testOf_7 (by decide) ?_
      refine G.mcall (f' := fX6_passes0) q2140 ck_X6_passes0 (c_X6_passes0 (pos := pos2) (nI 7) (hC.mv hx) hle h22) dX6_testOf_9 (rI.k fun r_9 M_9 h_9 => ?_) (hroom := jroom_of rfl rfl (by omega) (Nat.le_of_ble_eq_true rfl))
      obtain ⟨e_9, h_9⟩ := h_9; replace e_9 := e_9.symm; replace h_9 := h_9.symm; subst e_9; subst h_9
      refine G.ifb_eq (tgt := 50) dX6_testOf_12 (by decide) (fun c_12 => ?_) (fun c_12 => ?_)
      · have q := of_decide_eq_false c_12
        rw [if_neg q]
        obtain ⟨rfl, rfl, rfl⟩ := pRow_end h (show isOr (tk.1 pos2) = false from decide_eq_false q)
        refine G.iload_n2 dX6_testOf_50 ?_
        refine G.ireturn dX6_testOf_51 ?_ (hn := by first | rfl | exact bI_nar _)
        exact ⟨_, rfl, _, rfl, v, rfl, hx, h22, h24, hv⟩
      · have q := of_decide_eq_true c_12
        rw [if_pos q]
        obtain ⟨s1, p1, l1, h1, h2⟩ := pRow_on h (show isOr (tk.1 pos2) = true from decide_eq_true q)
        obtain ⟨-, hlt1, hle1⟩ := hQ _ _ _ _ _ h1
        refine G.aload_n0 dX6_testOf_15 ?_
        refine G.iload_n1 dX6_testOf_16 ?_
        refine G.ifb_eq (tgt := 28) dX6_testOf_17 (by decide) (fun c_17 => ?_) (fun c_17 => ?_)
        · refine G.iconst (v := nI 0) dX6_testOf_28 (by decide) ?_
          refine G.topi (bI (live && !v)) (by first | exact bI_ff (by rw [c_17]; rfl) | exact bI_ff (by rw [c_21]; simp) | exact bI_tt (by rw [c_17, c_21]; rfl)) ?_
          refine G.mcall (f' := fX6_bothOf (dp)) q2155 (ck_X6_bothOf _) (hone (ms M2 22 (nI (B + pos2 + 1))) (pos2 + 1) lv2 s1 p1 l1 (live && !v) (zB live b (acc e)) ((hC.mv hx).mv (mX.rf.ms (by decide))) h1 rfl h24) dX6_testOf_29 (rI.k fun r_29 M_29 h_29 => ?_) (hroom := jroom_of rfl rfl (by omega) (Nat.le_of_ble_eq_true rfl))
          obtain ⟨rb, rfl, hx3, hg3, hb3, hv3⟩ := h_29
          obtain ⟨z1, z2⟩ := z_test hv hv3
          refine G.istore_n3 dX6_testOf_32 ?_
          refine G.iload_n2 dX6_testOf_33 ?_
          refine G.ifb_ne (tgt := 41) dX6_testOf_34 (by decide) (fun c_34 => ?_) (fun c_34 => ?_)
          · refine G.iconst (v := nI 1) dX6_testOf_41 (by decide) ?_
            refine G.goto (tgt := 46) dX6_testOf_42 (by decide) ?_
            refine G.istore_n2 dX6_testOf_46 ?_
            refine G.goto (tgt := 6) dX6_testOf_47 (by decide) ?_
            first
            | exact ih (zOr acc s1) _ p1 l1 true _ ((hx.ms (by decide)).tr hx3 (by simp) (by simp)) hg3 (by rw [hb3, z1]) (fun g1 g2 x g => by rw [← z2 g1 g2 x g]; simp_all) hle1 h2
            | exact ih (zOr acc s1) _ p1 l1 false _ ((hx.ms (by decide)).tr hx3 (by simp) (by simp)) hg3 (by rw [hb3, z1]) (fun g1 g2 x g => by rw [← z2 g1 g2 x g]; simp_all) hle1 h2
          · refine G.iload_n3 dX6_testOf_37 ?_
            refine G.ifb_eq (tgt := 45) dX6_testOf_38 (by decide) (fun c_38 => ?_) (fun c_38 => ?_)
            · refine G.iconst (v := nI 0) dX6_testOf_45 (by decide) ?_
              refine G.istore_n2 dX6_testOf_46 ?_
              refine G.goto (tgt := 6) dX6_testOf_47 (by decide) ?_
              first
              | exact ih (zOr acc s1) _ p1 l1 true _ ((hx.ms (by decide)).tr hx3 (by simp) (by simp)) hg3 (by rw [hb3, z1]) (fun g1 g2 x g => by rw [← z2 g1 g2 x g]; simp_all) hle1 h2
              | exact ih (zOr acc s1) _ p1 l1 false _ ((hx.ms (by decide)).tr hx3 (by simp) (by simp)) hg3 (by rw [hb3, z1]) (fun g1 g2 x g => by rw [← z2 g1 g2 x g]; simp_all) hle1 h2
            · refine G.iconst (v := nI 1) dX6_testOf_41 (by decide) ?_
              refine G.goto (tgt := 46) dX6_testOf_42 (by decide) ?_
              refine G.istore_n2 dX6_testOf_46 ?_
              refine G.goto (tgt := 6) dX6_testOf_47 (by decide) ?_
              first
              | exact ih (zOr acc s1) _ p1 l1 true _ ((hx.ms (by decide)).tr hx3 (by simp) (by simp)) hg3 (by rw [hb3, z1]) (fun g1 g2 x g => by rw [← z2 g1 g2 x g]; simp_all) hle1 h2
              | exact ih (zOr acc s1) _ p1 l1 false _ ((hx.ms (by decide)).tr hx3 (by simp) (by simp)) hg3 (by rw [hb3, z1]) (fun g1 g2 x g => by rw [← z2 g1 g2 x g]; simp_all) hle1 h2
        · refine G.iload_n2 dX6_testOf_20 ?_
          refine G.ifb_ne (tgt := 28) dX6_testOf_21 (by decide) (fun c_21 => ?_) (fun c_21 => ?_)
          · refine G.iconst (v := nI 0) dX6_testOf_28 (by decide) ?_
            refine G.topi (bI (live && !v)) (by first | exact bI_ff (by rw [c_17]; rfl) | exact bI_ff (by rw [c_21]; simp) | exact bI_tt (by rw [c_17, c_21]; rfl)) ?_
            refine G.mcall (f' := fX6_bothOf (dp)) q2155 (ck_X6_bothOf _) (hone (ms M2 22 (nI (B + pos2 + 1))) (pos2 + 1) lv2 s1 p1 l1 (live && !v) (zB live b (acc e)) ((hC.mv hx).mv (mX.rf.ms (by decide))) h1 rfl h24) dX6_testOf_29 (rI.k fun r_29 M_29 h_29 => ?_) (hroom := jroom_of rfl rfl (by omega) (Nat.le_of_ble_eq_true rfl))
            obtain ⟨rb, rfl, hx3, hg3, hb3, hv3⟩ := h_29
            obtain ⟨z1, z2⟩ := z_test hv hv3
            refine G.istore_n3 dX6_testOf_32 ?_
            refine G.iload_n2 dX6_testOf_33 ?_
            refine G.ifb_ne (tgt := 41) dX6_testOf_34 (by decide) (fun c_34 => ?_) (fun c_34 => ?_)
            · refine G.iconst (v := nI 1) dX6_testOf_41 (by decide) ?_
              refine G.goto (tgt := 46) dX6_testOf_42 (by decide) ?_
              refine G.istore_n2 dX6_testOf_46 ?_
              refine G.goto (tgt := 6) dX6_testOf_47 (by decide) ?_
              first
              | exact ih (zOr acc s1) _ p1 l1 true _ ((hx.ms (by decide)).tr hx3 (by simp) (by simp)) hg3 (by rw [hb3, z1]) (fun g1 g2 x g => by rw [← z2 g1 g2 x g]; simp_all) hle1 h2
              | exact ih (zOr acc s1) _ p1 l1 false _ ((hx.ms (by decide)).tr hx3 (by simp) (by simp)) hg3 (by rw [hb3, z1]) (fun g1 g2 x g => by rw [← z2 g1 g2 x g]; simp_all) hle1 h2
            · refine G.iload_n3 dX6_testOf_37 ?_
              refine G.ifb_eq (tgt := 45) dX6_testOf_38 (by decide) (fun c_38 => ?_) (fun c_38 => ?_)
              · refine G.iconst (v := nI 0) dX6_testOf_45 (by decide) ?_
                refine G.istore_n2 dX6_testOf_46 ?_
                refine G.goto (tgt := 6) dX6_testOf_47 (by decide) ?_
                first
                | exact ih (zOr acc s1) _ p1 l1 true _ ((hx.ms (by decide)).tr hx3 (by simp) (by simp)) hg3 (by rw [hb3, z1]) (fun g1 g2 x g => by rw [← z2 g1 g2 x g]; simp_all) hle1 h2
                | exact ih (zOr acc s1) _ p1 l1 false _ ((hx.ms (by decide)).tr hx3 (by simp) (by simp)) hg3 (by rw [hb3, z1]) (fun g1 g2 x g => by rw [← z2 g1 g2 x g]; simp_all) hle1 h2
              · refine G.iconst (v := nI 1) dX6_testOf_41 (by decide) ?_
                refine G.goto (tgt := 46) dX6_testOf_42 (by decide) ?_
                refine G.istore_n2 dX6_testOf_46 ?_
                refine G.goto (tgt := 6) dX6_testOf_47 (by decide) ?_
                first
                | exact ih (zOr acc s1) _ p1 l1 true _ ((hx.ms (by decide)).tr hx3 (by simp) (by simp)) hg3 (by rw [hb3, z1]) (fun g1 g2 x g => by rw [← z2 g1 g2 x g]; simp_all) hle1 h2
                | exact ih (zOr acc s1) _ p1 l1 false _ ((hx.ms (by decide)).tr hx3 (by simp) (by simp)) hg3 (by rw [hb3, z1]) (fun g1 g2 x g => by rw [← z2 g1 g2 x g]; simp_all) hle1 h2
          · refine G.iconst (v := nI 1) dX6_testOf_24 (by decide) ?_
            refine G.goto (tgt := 29) dX6_testOf_25 (by decide) ?_
            refine G.topi (bI (live && !v)) (by first | exact bI_ff (by rw [c_17]; rfl) | exact bI_ff (by rw [c_21]; simp) | exact bI_tt (by rw [c_17, c_21]; rfl)) ?_
            refine G.mcall (f' := fX6_bothOf (dp)) q2155 (ck_X6_bothOf _) (hone (ms M2 22 (nI (B + pos2 + 1))) (pos2 + 1) lv2 s1 p1 l1 (live && !v) (zB live b (acc e)) ((hC.mv hx).mv (mX.rf.ms (by decide))) h1 rfl h24) dX6_testOf_29 (rI.k fun r_29 M_29 h_29 => ?_) (hroom := jroom_of rfl rfl (by omega) (Nat.le_of_ble_eq_true rfl))
            obtain ⟨rb, rfl, hx3, hg3, hb3, hv3⟩ := h_29
            obtain ⟨z1, z2⟩ := z_test hv hv3
            refine G.istore_n3 dX6_testOf_32 ?_
            refine G.iload_n2 dX6_testOf_33 ?_
            refine G.ifb_ne (tgt := 41) dX6_testOf_34 (by decide) (fun c_34 => ?_) (fun c_34 => ?_)
            · refine G.iconst (v := nI 1) dX6_testOf_41 (by decide) ?_
              refine G.goto (tgt := 46) dX6_testOf_42 (by decide) ?_
              refine G.istore_n2 dX6_testOf_46 ?_
              refine G.goto (tgt := 6) dX6_testOf_47 (by decide) ?_
              first
              | exact ih (zOr acc s1) _ p1 l1 true _ ((hx.ms (by decide)).tr hx3 (by simp) (by simp)) hg3 (by rw [hb3, z1]) (fun g1 g2 x g => by rw [← z2 g1 g2 x g]; simp_all) hle1 h2
              | exact ih (zOr acc s1) _ p1 l1 false _ ((hx.ms (by decide)).tr hx3 (by simp) (by simp)) hg3 (by rw [hb3, z1]) (fun g1 g2 x g => by rw [← z2 g1 g2 x g]; simp_all) hle1 h2
            · refine G.iload_n3 dX6_testOf_37 ?_
              refine G.ifb_eq (tgt := 45) dX6_testOf_38 (by decide) (fun c_38 => ?_) (fun c_38 => ?_)
              · refine G.iconst (v := nI 0) dX6_testOf_45 (by decide) ?_
                refine G.istore_n2 dX6_testOf_46 ?_
                refine G.goto (tgt := 6) dX6_testOf_47 (by decide) ?_
                first
                | exact ih (zOr acc s1) _ p1 l1 true _ ((hx.ms (by decide)).tr hx3 (by simp) (by simp)) hg3 (by rw [hb3, z1]) (fun g1 g2 x g => by rw [← z2 g1 g2 x g]; simp_all) hle1 h2
                | exact ih (zOr acc s1) _ p1 l1 false _ ((hx.ms (by decide)).tr hx3 (by simp) (by simp)) hg3 (by rw [hb3, z1]) (fun g1 g2 x g => by rw [← z2 g1 g2 x g]; simp_all) hle1 h2
              · refine G.iconst (v := nI 1) dX6_testOf_41 (by decide) ?_
                refine G.goto (tgt := 46) dX6_testOf_42 (by decide) ?_
                refine G.istore_n2 dX6_testOf_46 ?_
                refine G.goto (tgt := 6) dX6_testOf_47 (by decide) ?_
                first
                | exact ih (zOr acc s1) _ p1 l1 true _ ((hx.ms (by decide)).tr hx3 (by simp) (by simp)) hg3 (by rw [hb3, z1]) (fun g1 g2 x g => by rw [← z2 g1 g2 x g]; simp_all) hle1 h2
                | exact ih (zOr acc s1) _ p1 l1 false _ ((hx.ms (by decide)).tr hx3 (by simp) (by simp)) hg3 (by rw [hb3, z1]) (fun g1 g2 x g => by rw [← z2 g1 g2 x g]; simp_all) hle1 h2
  refine Ct.of [some (.ref (L.1 52)), some (.int (bI live)), none, none] rfl (Nat.le_of_ble_eq_true rfl) (show plainName RX6 = true by decide +kernel) rfl ?_
  refine G.aload_n0 dX6_testOf_0 ?_
  refine G.iload_n1 dX6_testOf_1 ?_
  refine G.mcall (f' := fX6_bothOf (dp)) q2155 (ck_X6_bothOf _) (hone M pos lv s0 p0 l0 live b hC hP0 hgo hb) dX6_testOf_2 (rI.k fun r_2 M_2 h_2 => ?_) (hroom := jroom_of rfl rfl (by omega) (Nat.le_of_ble_eq_true rfl))
  obtain ⟨rb, rfl, hx, hg', hb', hv⟩ := h_2
  refine G.istore_n2 dX6_testOf_5 ?_
  exact loop 402 s0 _ p0 l0 rb _ hx hg' hb' hv hle0 hPr

/-- tests, however deep -/
theorem e_tests (hN : N ≤ 401) (hk : tkOk tk N) (he : enOk e) : ∀ r, r ≤ 8 → EvT E (fX6_testOf (40 + 4 * r)) L ph (pTest ord tk r) B N tk ord e n := by
  intro r
  induction r with
  | zero =>
    intro _
    rw [show pTest ord tk 0 = pRows tk isOr (fun _ => zOr) (pBoth tk (pSum ord tk 0) none) from rfl]
    have h1 : ∀ pos lv s p l, pPos tk (pSum ord tk 0) none pos lv = .inr (s, p, l) → True ∧ pos < p ∧ p ≤ N := pPos_Q hk (pSum_Q hk he 0) (fun g hg => by cases hg)
    have h2 := pPlain_Q hk (pSum_Q (ord := ord) hk he 0) (sub := none) (fun g hg => by cases hg)
    exact e_test (dp := 39) (by omega) (e_both (dp := 38) (by omega) (e_plain (dq := 37) (by omega) hN hk (e_pos (dt := 36) (ds := 12 + 3 * 0) (by omega) (by omega) hk (e_sums hk he 0) (pSum_Q hk he 0) (fun g hg => by cases hg)) h1) h2) (pRows_Q h2 (fun _ _ _ _ _ _ => trivial))
  | succ r ih =>
    intro hr
    rw [show pTest ord tk (r + 1) = pRows tk isOr (fun _ => zOr) (pBoth tk (pSum ord tk (r + 1)) (some (pTest ord tk r))) from rfl]
    have hq : ∀ g, some (pTest ord tk r) = some g → ∀ pos lv s p l, g pos lv = .inr (s, p, l) → True ∧ pos < p ∧ p ≤ N := fun g hg => by cases hg; exact pTest_Q hk he r
    have h1 := pPos_Q hk (pSum_Q (ord := ord) hk he (r + 1)) hq
    have h2 := pPlain_Q hk (pSum_Q (ord := ord) hk he (r + 1)) hq
    rw [show 40 + 4 * (r + 1) = 40 + 4 * r + 1 + 1 + 1 + 1 from by omega]
    exact e_test (dp := 40 + 4 * r + 1 + 1 + 1) (by omega) (e_both (dp := 40 + 4 * r + 1 + 1) (by omega) (e_plain (dq := 40 + 4 * r + 1) (by omega) hN hk (e_pos (dt := 40 + 4 * r) (ds := 12 + 3 * (r + 1)) (by omega) (by omega) hk (e_sums hk he (r + 1)) (pSum_Q hk he (r + 1)) (fun g hg => ⟨by cases hg; exact ih (by omega), hq g hg⟩)) h1) h2) (pRows_Q h2 (fun _ _ _ _ _ _ => trivial))
end Ev
