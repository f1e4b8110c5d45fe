/-! THE MODEL: how many rows of nights -/
def rwN (ok : Nat → Nat → Nat → Bool) : Nat → Nat → Nat → Int64
  | 0, _, _ => 1
  | f + 1, k, u => zF (ok k u) (fun a c => a + rwN ok f (k + 1) (u ||| c)) 0 1024
def rOk (ok : Nat → Nat → Nat → Bool) (m : Nat) (T : Nat → Int64) : Prop := ∀ k u, k < m → u < 1024 → T (1024 * k + u) = -1 ∨ T (1024 * k + u) = rwN ok (m - k) k u
theorem mrl_at {M : MM} {j i : Nat} {v : Int64} : (mrl M j v).2.2.2 i = if i = j then v else M.2.2.2 i := rfl
abbrev mR (M M' : MM) : Prop := mX [8, 22, 23, 24, 34, 35] [25, 29, 30, 31, 32, 33, 37] M M'
section Rows
variable {E : JE} {L : ML} {ph : HP}
theorem c_X6_rowsFrom {K : KR} {b n away hushed m : Nat} (hK : KOk K b n) (ha : away < 1024) (hh : hushed < 1024) (hm : m ≤ 10) : ∀ f k, k + f = m → ∀ (M : MM) (u : Nat), M.2.2.1 2 = K → nOk K n away hushed M → rOk (zOk K n away hushed) m M.2.2.2 → u < 1024 → MC E (fX6_rowsFrom (900 + f)) L M ph [.int (nI k), .int (nI u), .int (nI m)] (rJ fun r M' => r = rwN (zOk K n away hushed) f k u ∧ nOk K n away hushed M' ∧ rOk (zOk K n away hushed) m M'.2.2.2 ∧ mX [8, 22, 23, 24] [25, 31, 32, 37] M M') := by
  intro f
  induction f with
  | zero =>
    intro k hk M u e hN hl hu
    obtain rfl : k = m := by omega
    refine Ct.of [some (.ref (L.1 52)), some (.int (nI k)), some (.int (nI u)), some (.int (nI k)), none, none, none, none] rfl (Nat.le_of_ble_eq_true rfl) (show plainName RX6 = true by decide +kernel) rfl ?_
    refine G.iload_n1 dX6_rowsFrom_0 ?_
    refine G.iload_n3 dX6_rowsFrom_1 ?_
    refine G.icmp_ne (tgt := 7) dX6_rowsFrom_2 (by decide) (fun c_2 => ?_) (fun c_2 => ?_)
    · exact absurd rfl c_2
    · refine G.lconst (v := 1) dX6_rowsFrom_5 (by decide) ?_
      refine G.lreturn dX6_rowsFrom_6 ?_
      exact ⟨_, rfl, _, rfl, rfl, hN, hl, mX.rf⟩
  | succ f ih =>
    intro k hk M u e hN hl hu
    refine Ct.of [some (.ref (L.1 52)), some (.int (nI k)), some (.int (nI u)), some (.int (nI m)), none, none, none, none] rfl (Nat.le_of_ble_eq_true rfl) (show plainName RX6 = true by decide +kernel) rfl ?_
    have hv := hl k u (by omega) hu
    rw [show m - k = f + 1 from by omega] at hv
    have loop : ∀ d c (M2 : MM), c + d = 1023 → M2.2.2.1 2 = K → nOk K n away hushed M2 → rOk (zOk K n away hushed) m M2.2.2.2 → mX [8, 22, 23, 24] [25, 31, 32, 37] M M2 → G E (fX6_rowsFrom (900 + (f + 1))) (mFin E (fX6_rowsFrom (900 + (f + 1))) L ph (rJ fun r M' => r = rwN (zOk K n away hushed) (f + 1) k u ∧ nOk K n away hushed M' ∧ rOk (zOk K n away hushed) m M'.2.2.2 ∧ mX [8, 22, 23, 24] [25, 31, 32, 37] M M')) 48 [some (.ref (L.1 52)), some (.int (nI k)), some (.int (nI u)), some (.int (nI m)), some (.int (nI (1024 * k + u))), some (.long (zF (zOk K n away hushed k u) (fun a c => a + rwN (zOk K n away hushed) f (k + 1) (u ||| c)) 0 (c + 1))), none, some (.int (oI (zNext (zOk K n away hushed k u) c)))] [] (movl L M2 ph) 0 0 := by
      intro d
      induction d using Nat.strongRecOn with
      | ind d ihd =>
        intro c M2 hcd e2 hN2 hl2 hx2
        have hsm : ∀ j, zNext (zOk K n away hushed k u) c = some j → j < 1024 := fun j z => (zNext_some z).2.1
        refine G.iload7 dX6_rowsFrom_48 ?_
        refine G.iconst (v := -1) dX6_rowsFrom_50 (by decide) ?_
        refine G.icmp_eq (tgt := 84) dX6_rowsFrom_51 (by decide) (fun c_51 => ?_) (fun c_51 => ?_)
        · have hz := (oI_m1 hsm).mp c_51
          have hend := zF_end (step := (fun a c => a + rwN (zOk K n away hushed) f (k + 1) (u ||| c))) (a := 0) hz (by omega)
          rw [← hend]
          refine G.aload_n0 dX6_rowsFrom_84 ?_
          refine G.mgeta 37 fl_X6_86 dX6_rowsFrom_85 ?_
          refine G.iload4 dX6_rowsFrom_88 ?_
          refine G.lload5 dX6_rowsFrom_90 ?_
          refine G.mlast (1024 * k + u) dX6_rowsFrom_92 rfl (by omega) ?_
          refine G.lload5 dX6_rowsFrom_93 ?_
          refine G.lreturn dX6_rowsFrom_95 ?_
          refine ⟨_, rfl, _, rfl, rfl, hN2.mv (mX.rf.mrl (by decide)), ?_, hx2.mrl (by decide)⟩
          intro k' u' h1 h2
          rw [mrl_at]
          split
          · rename_i q
            obtain ⟨rfl, rfl⟩ : k' = k ∧ u' = u := by omega
            rw [show m - k' = f + 1 from by omega]
            exact Or.inr rfl
          · exact hl2 k' u' h1 h2
        · obtain ⟨j, hz⟩ : ∃ j, zNext (zOk K n away hushed k u) c = some j := by
            cases h9 : zNext (zOk K n away hushed k u) c with
            | none => rw [h9] at c_51; exact absurd rfl c_51
            | some j => exact ⟨j, rfl⟩
          obtain ⟨hj1, hj2, -, -⟩ := zNext_some hz
          rw [hz, show oI (some j) = nI j from rfl]
          have hnext := zF_next (step := (fun a c => a + rwN (zOk K n away hushed) f (k + 1) (u ||| c))) (a := 0) hz
          have huj := or_lt hu hj2
          refine G.lload5 dX6_rowsFrom_54 ?_
          refine G.aload_n0 dX6_rowsFrom_56 ?_
          refine G.iload_n1 dX6_rowsFrom_57 ?_
          refine G.iconst (v := nI 1) dX6_rowsFrom_58 (by decide) ?_
          first | with_reducible refine G.iaddn dX6_rowsFrom_59 ?_ | refine G.iadd dX6_rowsFrom_59 ?_
          refine G.iload_n2 dX6_rowsFrom_60 ?_
          refine G.iload7 dX6_rowsFrom_61 ?_
          refine G.ior dX6_rowsFrom_63 ?_
          rw [b_or (by omega) (by omega)]
          refine G.iload_n3 dX6_rowsFrom_64 ?_
          refine G.mcall (f' := fX6_rowsFrom (900 + f)) q2296 (ck_X6_rowsFrom _) (ih (k + 1) (by omega) M2 (u ||| j) e2 hN2 hl2 huj) dX6_rowsFrom_65 (rJ.k fun r_65 M_65 h_65 => ?_) (hroom := jroom_of rfl rfl (by omega) (Nat.le_of_ble_eq_true rfl))
          have r65 := h_65.1
          have g1 := h_65.2.1
          have g2 := h_65.2.2.1
          have g3 := h_65.2.2.2
          clear h_65
          rw [r65]
          have e3 : M_65.2.2.1 2 = K := (g3.2.2.1 2 (by decide)).trans e2
          have hx3 : mX [8, 22, 23, 24] [25, 31, 32, 37] M M_65 := hx2.tr g3 (by simp) (by simp)
          refine G.ladd dX6_rowsFrom_68 ?_
          refine G.lstore5 dX6_rowsFrom_69 ?_
          refine G.aload_n0 dX6_rowsFrom_71 ?_
          refine G.iload_n1 dX6_rowsFrom_72 ?_
          refine G.iload_n2 dX6_rowsFrom_73 ?_
          refine G.iload7 dX6_rowsFrom_74 ?_
          refine G.mcall (f' := fX6_crewIn) q2256 ck_X6_crewIn (c_crewInK e3 hK g1 ha hh (night := k) (c := j) (by omega) hu hj2) dX6_rowsFrom_76 (rI.k fun r_76 M_76 h_76 => ?_) (hroom := jroom_of rfl rfl (by omega) (Nat.le_of_ble_eq_true rfl))
          have e76 := h_76.1
          have q1 := h_76.2.1
          have q2 := h_76.2.2
          clear h_76
          rw [e76]
          have hgo := ihd (1023 - j) (by omega) j M_76 (by omega) ((q2.2.2.1 2 (by decide)).trans e3) q1 (by rw [q2.2.2.2 (by decide)]; exact g2) (hx3.tr q2 (by simp) (by simp))
          rw [hnext] at hgo
          refine G.istore7 dX6_rowsFrom_79 ?_
          refine G.goto (tgt := 48) dX6_rowsFrom_81 (by decide) ?_
          exact hgo
    refine G.iload_n1 dX6_rowsFrom_0 ?_
    refine G.iload_n3 dX6_rowsFrom_1 ?_
    refine G.icmp_ne (tgt := 7) dX6_rowsFrom_2 (by decide) (fun c_2 => ?_) (fun c_2 => ?_)
    · refine G.sipush (v := nI 1024) dX6_rowsFrom_7 (by decide) ?_
      refine G.iload_n1 dX6_rowsFrom_10 ?_
      first | with_reducible refine G.imuln dX6_rowsFrom_11 ?_ | refine G.imul dX6_rowsFrom_11 ?_
      refine G.iload_n2 dX6_rowsFrom_12 ?_
      first | with_reducible refine G.iaddn dX6_rowsFrom_13 ?_ | refine G.iadd dX6_rowsFrom_13 ?_
      refine G.istore4 dX6_rowsFrom_14 ?_
      refine G.aload_n0 dX6_rowsFrom_16 ?_
      refine G.mgeta 37 fl_X6_86 dX6_rowsFrom_17 ?_
      refine G.iload4 dX6_rowsFrom_20 ?_
      refine G.mlald (1024 * k + u) dX6_rowsFrom_22 rfl (by omega) ?_
      refine G.lconst (v := 0) dX6_rowsFrom_23 (by decide) ?_
      refine G.lcmp dX6_rowsFrom_24 ?_
      refine G.if_lt (tgt := 36) dX6_rowsFrom_25 (by decide) (fun c_25 => ?_) (fun c_25 => ?_)
      · refine G.lconst (v := 0) dX6_rowsFrom_36 (by decide) ?_
        refine G.lstore5 dX6_rowsFrom_37 ?_
        refine G.aload_n0 dX6_rowsFrom_39 ?_
        refine G.iload_n1 dX6_rowsFrom_40 ?_
        refine G.iload_n2 dX6_rowsFrom_41 ?_
        refine G.iconst (v := nI 0) dX6_rowsFrom_42 (by decide) ?_
        refine G.mcall (f' := fX6_crewIn) q2256 ck_X6_crewIn (c_crewInK e hK hN ha hh (night := k) (c := 0) (by omega) hu (by omega)) dX6_rowsFrom_43 (rI.k fun r_43 M_43 h_43 => ?_) (hroom := jroom_of rfl rfl (by omega) (Nat.le_of_ble_eq_true rfl))
        have e43 := h_43.1
        have q1 := h_43.2.1
        have q2 := h_43.2.2
        clear h_43
        rw [e43]
        refine G.istore7 dX6_rowsFrom_46 ?_
        have := loop 1023 0 M_43 (by omega) ((q2.2.2.1 2 (by decide)).trans e) q1 (by rw [q2.2.2.2 (by decide)]; exact hl) (q2.mono (by simp) (by simp))
        rw [zF_1 zOk_0] at this
        exact this
      · refine G.aload_n0 dX6_rowsFrom_28 ?_
        refine G.mgeta 37 fl_X6_86 dX6_rowsFrom_29 ?_
        refine G.iload4 dX6_rowsFrom_32 ?_
        refine G.mlald (1024 * k + u) dX6_rowsFrom_34 rfl (by omega) ?_
        refine G.lreturn dX6_rowsFrom_35 ?_
        refine ⟨_, rfl, _, rfl, hv.resolve_left (fun z => c_25 ?_), hN, hl, mX.rf⟩
        rw [z]
        decide
    · exact absurd ((nI_inj (a := k) (b := m) (by omega) (by omega)).mp c_2) (by omega)
def oWays (K : KR) (n : Nat) (x : Int32) : Int64 := if zIn x 0 10 then rwN (zOk K n 0 0) (tNat x) 0 0 else -1
theorem c_X6_ways {M : MM} {K : KR} (e : M.2.2.1 2 = K) {b n : Nat} (hK : KOk K b n) (x : Int32) : MC E fX6_ways L M ph [.int x] (rJ fun r M' => r = oWays K n x ∧ mR M M') := by
  refine Ct.of [some (.ref (L.1 52)), some (.int x), none] rfl (Nat.le_of_ble_eq_true rfl) (show plainName RX6 = true by decide +kernel) rfl ?_
  refine G.iload_n1 dX6_ways_0 ?_
  refine G.iconst (v := nI 0) dX6_ways_1 (by decide) ?_
  refine G.bipush (v := nI 10) dX6_ways_2 (by decide) ?_
  refine G.scall (f' := fX6_lies) q1912 ck_X6_lies (c_X6_lies E _ _ _) dX6_ways_4 (sI.k fun r_4 h_4 => ?_)
  replace h_4 := h_4.symm; subst h_4
  refine G.ifb_ne (tgt := 14) dX6_ways_7 (by decide) (fun c_7 => ?_) (fun c_7 => ?_)
  · have q := of_decide_eq_true c_7
    obtain ⟨w, hw, rfl⟩ := zIn_of q (by decide)
    rw [show oWays K n (nI w) = rwN (zOk K n 0 0) w 0 0 from (if_pos q).trans (by rw [tNat_nI (by omega)])]
    refine G.aload_n0 dX6_ways_14 ?_
    refine G.mcall (f' := fX6_looks) q2244 ck_X6_looks (c_looksK e hK) dX6_ways_15 (rV.k fun M_15 h_15 => ?_)
    have g1 := h_15.1
    have g3 := h_15.2.2.1
    have g4 := h_15.2.2.2
    clear h_15
    refine G.iconst (v := nI 0) dX6_ways_18 (by decide) ?_
    refine G.istore_n2 dX6_ways_19 ?_
    have loop : ∀ d i M2, i + d = 11264 → M2.2.2.1 2 = K → nOk K n 0 0 M2 → (∀ j, j < i → M2.2.2.2 j = -1) → mR M M2 → G E fX6_ways (mFin E fX6_ways L ph (rJ fun r M' => r = rwN (zOk K n 0 0) w 0 0 ∧ mR M M')) 20 [some (.ref (L.1 52)), some (.int (nI w)), some (.int (nI i))] [] (movl L M2 ph) 0 0 := by
      intro d
      induction d with
      | zero =>
        intro i M2 hi e2 hn2 hf hx2
        refine G.iload_n2 dX6_ways_20 ?_
        refine G.sipush (v := nI 11264) dX6_ways_21 (by decide) ?_
        refine G.icmp_ge (tgt := 42) dX6_ways_24 (by decide) (fun c_24 => ?_) (fun c_24 => ?_)
        · refine G.aload_n0 dX6_ways_42 ?_
          refine G.iconst (v := nI 0) dX6_ways_43 (by decide) ?_
          refine G.iconst (v := nI 0) dX6_ways_44 (by decide) ?_
          refine G.iload_n1 dX6_ways_45 ?_
          refine G.mcall (f' := fX6_rowsFrom (900 + w)) q2296 (ck_X6_rowsFrom _) (c_X6_rowsFrom (m := w) hK (by decide) (by decide) hw w 0 (by omega) M2 0 e2 hn2 (fun k u h1 h2 => Or.inl (hf _ (by omega))) (by decide)) dX6_ways_46 (rJ.k fun r_46 M_46 h_46 => ?_) (hroom := jroom_of rfl rfl (by omega) (Nat.le_of_ble_eq_true rfl))
          have r46 := h_46.1
          have x46 := h_46.2.2.2
          clear h_46
          rw [r46]
          refine G.lreturn dX6_ways_49 ?_
          exact ⟨_, rfl, _, rfl, rfl, hx2.tr x46 (by simp) (by simp)⟩
        · exact absurd (nI_leI (by omega) (by omega) |>.mpr (by omega)) c_24
      | succ d ih =>
        intro i M2 hi e2 hn2 hf hx2
        refine G.iload_n2 dX6_ways_20 ?_
        refine G.sipush (v := nI 11264) dX6_ways_21 (by decide) ?_
        refine G.icmp_ge (tgt := 42) dX6_ways_24 (by decide) (fun c_24 => ?_) (fun c_24 => ?_)
        · exact absurd ((nI_leI (by omega) (by omega)).mp c_24) (by omega)
        · refine G.aload_n0 dX6_ways_27 ?_
          refine G.mgeta 37 fl_X6_86 dX6_ways_28 ?_
          refine G.iload_n2 dX6_ways_31 ?_
          refine G.ldc2 q2144 dX6_ways_32 ?_
          refine G.mlast i dX6_ways_35 rfl (by omega) ?_
          refine G.iinc2 dX6_ways_36 ?_
          try rw [show ∀ a : Nat, nI a + Int32.ofInt 1 = nI (a + 1) from fun a => nI_add a 1]
          refine G.goto (tgt := 20) dX6_ways_39 (by decide) ?_
          refine ih (i + 1) _ (by omega) e2 (hn2.mv (mX.rf.mrl (by decide))) (fun j hj => ?_) (hx2.mrl (by decide))
          rw [mrl_at]
          split
          · rfl
          · exact hf j (by omega)
    exact loop 11264 0 M_15 rfl g3 g1 (fun j hj => absurd hj (by omega)) (g4.mono (by simp) (by simp))
  · refine G.ldc2 q2144 dX6_ways_10 ?_
    refine G.lreturn dX6_ways_13 ?_
    exact ⟨_, rfl, _, rfl, (if_neg (of_decide_eq_false c_7)).symm, mX.rf⟩
end Rows
