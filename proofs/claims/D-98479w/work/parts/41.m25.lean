/-! THE MODEL: the cheapest row of nights -/
def chN (ok : Nat → Nat → Nat → Bool) (pr : Nat → Nat) : Nat → Nat → Nat → Nat
  | 0, _, _ => 0
  | f + 1, k, u => zF (ok k u) (fun a c => min a (chN ok pr f (k + 1) (u ||| c) + zSumW pr c 10)) 1000000 1024
theorem chN_le {ok : Nat → Nat → Nat → Bool} {pr : Nat → Nat} : ∀ f k u, chN ok pr f k u ≤ 1000000
  | 0, _, _ => Nat.zero_le _
  | f + 1, k, u => by
    rw [chN]
    exact zF_inv (fun x => x ≤ 1000000) (by omega) (fun x c hx => by omega) 1024
theorem zSumW_le9 {w : Nat → Nat} {c : Nat} (hw : ∀ p, w p ≤ 999) : ∀ p, zSumW w c p ≤ 999 * p
  | 0 => by rw [zSumW]; omega
  | p + 1 => by
    have := zSumW_le9 (c := c) hw p
    have := hw p
    rw [zSumW]
    split <;> omega
def cOk (ok : Nat → Nat → Nat → Bool) (pr : Nat → Nat) (m : Nat) (T : Nat → Int32) : Prop := ∀ k u, k < m → u < 1024 → T (1024 * k + u) = -1 ∨ T (1024 * k + u) = nI (chN ok pr (m - k) k u)
section Cheap
variable {E : JE} {L : ML} {ph : HP}
theorem c_X6_priceOf {M : MM} {pr : Nat → Nat} (hM : ∀ p, p < 10 → M.2.2.1 38 p = nI (pr p)) (c : Nat) (hc : c < 2147483648) : MC E fX6_priceOf L M ph [.int (nI c)] (rI fun r M' => r = nI (zSumW pr c 10) ∧ M' = M) := by
  refine Ct.of [some (.ref (L.1 52)), some (.int (nI c)), none, none] rfl (Nat.le_of_ble_eq_true rfl) (show plainName RX6 = true by decide +kernel) rfl ?_
  have loop : ∀ d i, i + d = 10 → G E fX6_priceOf (mFin E fX6_priceOf L ph (rI fun r M' => r = nI (zSumW pr c 10) ∧ M' = M)) 4 [some (.ref (L.1 52)), some (.int (nI c)), some (.int (nI (zSumW pr c i))), some (.int (nI i))] [] (movl L M ph) 0 0 := by
    intro d
    induction d with
    | zero =>
      intro i hi
      refine G.iload_n3 dX6_priceOf_4 ?_
      refine G.bipush (v := nI 10) dX6_priceOf_5 (by decide) ?_
      refine G.icmp_ge (tgt := 37) dX6_priceOf_7 (by decide) (fun c_7 => ?_) (fun c_7 => ?_)
      · refine G.iload_n2 dX6_priceOf_37 ?_
        refine G.ireturn dX6_priceOf_38 ?_
        exact ⟨_, rfl, _, rfl, by rw [show i = 10 from by omega], rfl⟩
      · exact absurd (nI_leI (by omega) (by omega) |>.mpr (by omega)) c_7
    | succ d ih =>
      intro i hi
      have hgo := ih (i + 1) (by omega)
      clear ih
      have hs1 : c.testBit i = true → zSumW pr c (i + 1) = zSumW pr c i + pr i := fun z => by rw [zSumW, if_pos z]
      have hs0 : c.testBit i = false → zSumW pr c (i + 1) = zSumW pr c i + 0 := fun z => by rw [zSumW, if_neg (by rw [z]; exact Bool.false_ne_true)]
      refine G.iload_n3 dX6_priceOf_4 ?_
      refine G.bipush (v := nI 10) dX6_priceOf_5 (by decide) ?_
      refine G.icmp_ge (tgt := 37) dX6_priceOf_7 (by decide) (fun c_7 => ?_) (fun c_7 => ?_)
      · exact absurd ((nI_leI (by omega) (by omega)).mp c_7) (by omega)
      · refine G.iload_n2 dX6_priceOf_10 ?_
        refine G.iload_n1 dX6_priceOf_11 ?_
        refine G.iload_n3 dX6_priceOf_12 ?_
        refine G.scall (f' := fX6_isIn) q2211 ck_X6_isIn (c_isIn E c i hc (by omega)) dX6_priceOf_13 (sI.k fun r_13 h_13 => ?_)
        replace h_13 := h_13.symm; subst h_13
        refine G.ifb_eq (tgt := 28) dX6_priceOf_16 (by decide) (fun c_16 => ?_) (fun c_16 => ?_)
        · refine G.iconst (v := nI 0) dX6_priceOf_28 (by decide) ?_
          first | with_reducible refine G.iaddn dX6_priceOf_29 ?_ | refine G.iadd dX6_priceOf_29 ?_
          refine G.istore_n2 dX6_priceOf_30 ?_
          refine G.iinc3 dX6_priceOf_31 ?_
          try rw [show ∀ a : Nat, nI a + Int32.ofInt 1 = nI (a + 1) from fun a => nI_add a 1]
          refine G.goto (tgt := 4) dX6_priceOf_34 (by decide) ?_
          first
          | (rw [hs1 c_16] at hgo
             exact hgo)
          | (rw [hs0 c_16] at hgo
             exact hgo)
        · refine G.aload_n0 dX6_priceOf_19 ?_
          refine G.mgeta 38 fl_X6_90 dX6_priceOf_20 ?_
          refine G.iload_n3 dX6_priceOf_23 ?_
          refine G.miald (n := 10) 38 _ dX6_priceOf_24 rfl (by omega) ?_
          rw [hM i (by omega)]
          refine G.goto (tgt := 29) dX6_priceOf_25 (by decide) ?_
          first | with_reducible refine G.iaddn dX6_priceOf_29 ?_ | refine G.iadd dX6_priceOf_29 ?_
          refine G.istore_n2 dX6_priceOf_30 ?_
          refine G.iinc3 dX6_priceOf_31 ?_
          try rw [show ∀ a : Nat, nI a + Int32.ofInt 1 = nI (a + 1) from fun a => nI_add a 1]
          refine G.goto (tgt := 4) dX6_priceOf_34 (by decide) ?_
          first
          | (rw [hs1 c_16] at hgo
             exact hgo)
          | (rw [hs0 c_16] at hgo
             exact hgo)
  refine G.iconst (v := nI 0) dX6_priceOf_0 (by decide) ?_
  refine G.istore_n2 dX6_priceOf_1 ?_
  refine G.iconst (v := nI 0) dX6_priceOf_2 (by decide) ?_
  refine G.istore_n3 dX6_priceOf_3 ?_
  exact loop 10 0 rfl
theorem c_X6_cheapestFrom {K : KR} {b n m : Nat} {pr : Nat → Nat} (hK : KOk K b n) (hpr : ∀ p, pr p ≤ 999) (hm : m ≤ 10) : ∀ f k, k + f = m → ∀ (M : MM) (u : Nat), M.2.2.1 2 = K → nOk K n 0 0 M → cOk (zOk K n 0 0) pr m (M.2.2.1 36) → (∀ p, p < 10 → M.2.2.1 38 p = nI (pr p)) → u < 1024 → MC E (fX6_cheapestFrom (900 + f)) L M ph [.int (nI k), .int (nI u), .int (nI m)] (rI fun r M' => r = nI (chN (zOk K n 0 0) pr f k u) ∧ nOk K n 0 0 M' ∧ cOk (zOk K n 0 0) pr m (M'.2.2.1 36) ∧ mX [8, 22, 23, 24] [25, 31, 32, 36] M M') := by
  intro f
  induction f with
  | zero =>
    intro k hk M u e hN hl hp hu
    obtain rfl : k = m := by omega
    refine Ct.of [some (.ref (L.1 52)), some (.int (nI k)), some (.int (nI u)), some (.int (nI k)), none, none, none] rfl (Nat.le_of_ble_eq_true rfl) (show plainName RX6 = true by decide +kernel) rfl ?_
    refine G.iload_n1 dX6_cheapestFrom_0 ?_
    refine G.iload_n3 dX6_cheapestFrom_1 ?_
    refine G.icmp_ne (tgt := 7) dX6_cheapestFrom_2 (by decide) (fun c_2 => ?_) (fun c_2 => ?_)
    · exact absurd rfl c_2
    · refine G.iconst (v := nI 0) dX6_cheapestFrom_5 (by decide) ?_
      refine G.ireturn dX6_cheapestFrom_6 ?_
      exact ⟨_, rfl, _, rfl, rfl, hN, hl, mX.rf⟩
  | succ f ih =>
    intro k hk M u e hN hl hp hu
    refine Ct.of [some (.ref (L.1 52)), some (.int (nI k)), some (.int (nI u)), some (.int (nI m)), none, none, none] rfl (Nat.le_of_ble_eq_true rfl) (show plainName RX6 = true by decide +kernel) rfl ?_
    have hv := hl k u (by omega) hu
    rw [show m - k = f + 1 from by omega] at hv
    have loop : ∀ d c (M2 : MM), c + d = 1023 → M2.2.2.1 2 = K → nOk K n 0 0 M2 → cOk (zOk K n 0 0) pr m (M2.2.2.1 36) → mX [8, 22, 23, 24] [25, 31, 32, 36] M M2 → G E (fX6_cheapestFrom (900 + (f + 1))) (mFin E (fX6_cheapestFrom (900 + (f + 1))) L ph (rI fun r M' => r = nI (chN (zOk K n 0 0) pr (f + 1) k u) ∧ nOk K n 0 0 M' ∧ cOk (zOk K n 0 0) pr m (M'.2.2.1 36) ∧ mX [8, 22, 23, 24] [25, 31, 32, 36] M M')) 48 [some (.ref (L.1 52)), some (.int (nI k)), some (.int (nI u)), some (.int (nI m)), some (.int (nI (1024 * k + u))), some (.int (nI (zF (zOk K n 0 0 k u) (fun a c => min a (chN (zOk K n 0 0) pr f (k + 1) (u ||| c) + zSumW pr c 10)) 1000000 (c + 1)))), some (.int (oI (zNext (zOk K n 0 0 k u) c)))] [] (movl L M2 ph) 0 0 := by
      intro d
      induction d using Nat.strongRecOn with
      | ind d ihd =>
        intro c M2 hcd e2 hN2 hl2 hx2
        have hbest : ∀ j, zF (zOk K n 0 0 k u) (fun a c => min a (chN (zOk K n 0 0) pr f (k + 1) (u ||| c) + zSumW pr c 10)) 1000000 j ≤ 1000000 := zF_inv (fun x => x ≤ 1000000) (by omega) (fun x c hx => by omega)
        have hb1 := hbest (c + 1)
        have hsm : ∀ j, zNext (zOk K n 0 0 k u) c = some j → j < 1024 := fun j z => (zNext_some z).2.1
        refine G.iload6 dX6_cheapestFrom_48 ?_
        refine G.iconst (v := -1) dX6_cheapestFrom_50 (by decide) ?_
        refine G.icmp_eq (tgt := 93) dX6_cheapestFrom_51 (by decide) (fun c_51 => ?_) (fun c_51 => ?_)
        · have hz := (oI_m1 hsm).mp c_51
          have hend := zF_end (step := (fun a c => min a (chN (zOk K n 0 0) pr f (k + 1) (u ||| c) + zSumW pr c 10))) (a := 1000000) hz (by omega)
          rw [← hend]
          refine G.aload_n0 dX6_cheapestFrom_93 ?_
          refine G.mgeta 36 fl_X6_83 dX6_cheapestFrom_94 ?_
          refine G.iload4 dX6_cheapestFrom_97 ?_
          refine G.iload5 dX6_cheapestFrom_99 ?_
          refine G.miast (n := 11264) 36 (1024 * k + u) dX6_cheapestFrom_101 rfl (by omega) ?_
          refine G.iload5 dX6_cheapestFrom_102 ?_
          refine G.ireturn dX6_cheapestFrom_104 ?_
          refine ⟨_, rfl, _, rfl, rfl, hN2.mv (mX.rf.ma (by decide)), ?_, hx2.ma (by decide)⟩
          intro k' u' h1 h2
          rw [ma_at, if_pos rfl]
          split
          · rename_i q
            obtain ⟨rfl, rfl⟩ : k' = k ∧ u' = u := by omega
            rw [show m - k' = f + 1 from by omega]
            exact Or.inr rfl
          · exact hl2 k' u' h1 h2
        · obtain ⟨j, hz⟩ : ∃ j, zNext (zOk K n 0 0 k u) c = some j := by
            cases h9 : zNext (zOk K n 0 0 k u) c with
            | none => rw [h9] at c_51; exact absurd rfl c_51
            | some j => exact ⟨j, rfl⟩
          obtain ⟨hj1, hj2, -, -⟩ := zNext_some hz
          rw [hz, show oI (some j) = nI j from rfl]
          have hnext := zF_next (step := (fun a c => min a (chN (zOk K n 0 0) pr f (k + 1) (u ||| c) + zSumW pr c 10))) (a := 1000000) hz
          have huj := or_lt hu hj2
          have hch := chN_le (ok := zOk K n 0 0) (pr := pr) f (k + 1) (u ||| j)
          have hsu := zSumW_le9 (c := j) hpr 10
          refine G.iload5 dX6_cheapestFrom_54 ?_
          refine G.aload_n0 dX6_cheapestFrom_56 ?_
          refine G.iload_n1 dX6_cheapestFrom_57 ?_
          refine G.iconst (v := nI 1) dX6_cheapestFrom_58 (by decide) ?_
          first | with_reducible refine G.iaddn dX6_cheapestFrom_59 ?_ | refine G.iadd dX6_cheapestFrom_59 ?_
          refine G.iload_n2 dX6_cheapestFrom_60 ?_
          refine G.iload6 dX6_cheapestFrom_61 ?_
          refine G.ior dX6_cheapestFrom_63 ?_
          rw [b_or (by omega) (by omega)]
          refine G.iload_n3 dX6_cheapestFrom_64 ?_
          refine G.mcall (f' := fX6_cheapestFrom (900 + f)) q2284 (ck_X6_cheapestFrom _) (ih (k + 1) (by omega) M2 (u ||| j) e2 hN2 hl2 (fun p q => by rw [hx2.2.2.1 38 (by decide)]; exact hp p q) huj) dX6_cheapestFrom_65 (rI.k fun r_65 M_65 h_65 => ?_) (hroom := jroom_of rfl rfl (by omega) (Nat.le_of_ble_eq_true rfl))
          have r65 := h_65.1
          have g1 := h_65.2.1
          have g2 := h_65.2.2.1
          have g3 := h_65.2.2.2
          clear h_65
          rw [r65]
          have e3 : M_65.2.2.1 2 = K := (g3.2.2.1 2 (by decide)).trans e2
          have hx3 : mX [8, 22, 23, 24] [25, 31, 32, 36] M M_65 := hx2.tr g3 (by simp) (by simp)
          refine G.aload_n0 dX6_cheapestFrom_68 ?_
          refine G.iload6 dX6_cheapestFrom_69 ?_
          refine G.mcall (f' := fX6_priceOf) q2288 ck_X6_priceOf (c_X6_priceOf (M := M_65) (pr := pr) (fun p q => by rw [hx3.2.2.1 38 (by decide)]; exact hp p q) j (by omega)) dX6_cheapestFrom_71 (rI.k fun r_71 M_71 h_71 => ?_) (hroom := jroom_of rfl rfl (by omega) (Nat.le_of_ble_eq_true rfl))
          obtain ⟨e_71, h_71⟩ := h_71; replace e_71 := e_71.symm; replace h_71 := h_71.symm; subst e_71; subst h_71
          first | with_reducible refine G.iaddn dX6_cheapestFrom_74 ?_ | refine G.iadd dX6_cheapestFrom_74 ?_
          refine G.scall (f' := fX6_lesser) q2225 ck_X6_lesser (c_X6_lesser E _ _) dX6_cheapestFrom_75 (sI.k fun r_75 h_75 => ?_) (hroom := jroom_of rfl rfl (by omega) (Nat.le_of_ble_eq_true rfl))
          replace h_75 := h_75.symm; subst h_75
          rw [n_min (by omega) (by omega)]
          refine G.istore5 dX6_cheapestFrom_78 ?_
          refine G.aload_n0 dX6_cheapestFrom_80 ?_
          refine G.iload_n1 dX6_cheapestFrom_81 ?_
          refine G.iload_n2 dX6_cheapestFrom_82 ?_
          refine G.iload6 dX6_cheapestFrom_83 ?_
          refine G.mcall (f' := fX6_crewIn) q2256 ck_X6_crewIn (c_crewInK e3 hK g1 (by decide) (by decide) (night := k) (c := j) (by omega) hu hj2) dX6_cheapestFrom_85 (rI.k fun r_85 M_85 h_85 => ?_) (hroom := jroom_of rfl rfl (by omega) (Nat.le_of_ble_eq_true rfl))
          have e85 := h_85.1
          have q1 := h_85.2.1
          have q2 := h_85.2.2
          clear h_85
          rw [e85]
          have hgo := ihd (1023 - j) (by omega) j M_85 (by omega) ((q2.2.2.1 2 (by decide)).trans e3) q1 (by rw [q2.2.2.1 36 (by decide)]; exact g2) (hx3.tr q2 (by simp) (by simp))
          rw [hnext] at hgo
          refine G.istore6 dX6_cheapestFrom_88 ?_
          refine G.goto (tgt := 48) dX6_cheapestFrom_90 (by decide) ?_
          exact hgo
    refine G.iload_n1 dX6_cheapestFrom_0 ?_
    refine G.iload_n3 dX6_cheapestFrom_1 ?_
    refine G.icmp_ne (tgt := 7) dX6_cheapestFrom_2 (by decide) (fun c_2 => ?_) (fun c_2 => ?_)
    · refine G.sipush (v := nI 1024) dX6_cheapestFrom_7 (by decide) ?_
      refine G.iload_n1 dX6_cheapestFrom_10 ?_
      first | with_reducible refine G.imuln dX6_cheapestFrom_11 ?_ | refine G.imul dX6_cheapestFrom_11 ?_
      refine G.iload_n2 dX6_cheapestFrom_12 ?_
      first | with_reducible refine G.iaddn dX6_cheapestFrom_13 ?_ | refine G.iadd dX6_cheapestFrom_13 ?_
      refine G.istore4 dX6_cheapestFrom_14 ?_
      refine G.aload_n0 dX6_cheapestFrom_16 ?_
      refine G.mgeta 36 fl_X6_83 dX6_cheapestFrom_17 ?_
      refine G.iload4 dX6_cheapestFrom_20 ?_
      refine G.miald (n := 11264) 36 (1024 * k + u) dX6_cheapestFrom_22 rfl (by omega) ?_
      refine G.iconst (v := -1) dX6_cheapestFrom_23 (by decide) ?_
      refine G.icmp_eq (tgt := 35) dX6_cheapestFrom_24 (by decide) (fun c_24 => ?_) (fun c_24 => ?_)
      · refine G.ldc q2024 dX6_cheapestFrom_35 ?_
        refine G.topi (nI 1000000) (by decide) ?_
        refine G.istore5 dX6_cheapestFrom_37 ?_
        refine G.aload_n0 dX6_cheapestFrom_39 ?_
        refine G.iload_n1 dX6_cheapestFrom_40 ?_
        refine G.iload_n2 dX6_cheapestFrom_41 ?_
        refine G.iconst (v := nI 0) dX6_cheapestFrom_42 (by decide) ?_
        refine G.mcall (f' := fX6_crewIn) q2256 ck_X6_crewIn (c_crewInK e hK hN (by decide) (by decide) (night := k) (c := 0) (by omega) hu (by omega)) dX6_cheapestFrom_43 (rI.k fun r_43 M_43 h_43 => ?_) (hroom := jroom_of rfl rfl (by omega) (Nat.le_of_ble_eq_true rfl))
        have e43 := h_43.1
        have q1 := h_43.2.1
        have q2 := h_43.2.2
        clear h_43
        rw [e43]
        refine G.istore6 dX6_cheapestFrom_46 ?_
        have := loop 1023 0 M_43 (by omega) ((q2.2.2.1 2 (by decide)).trans e) q1 (by rw [q2.2.2.1 36 (by decide)]; exact hl) (q2.mono (by simp) (by simp))
        rw [zF_1 zOk_0] at this
        exact this
      · refine G.aload_n0 dX6_cheapestFrom_27 ?_
        refine G.mgeta 36 fl_X6_83 dX6_cheapestFrom_28 ?_
        refine G.iload4 dX6_cheapestFrom_31 ?_
        refine G.miald (n := 11264) 36 (1024 * k + u) dX6_cheapestFrom_33 rfl (by omega) ?_
        refine G.ireturn dX6_cheapestFrom_34 ?_
        exact ⟨_, rfl, _, rfl, hv.resolve_left c_24, hN, hl, mX.rf⟩
    · exact absurd ((nI_inj (a := k) (b := m) (by omega) (by omega)).mp c_2) (by omega)
end Cheap
