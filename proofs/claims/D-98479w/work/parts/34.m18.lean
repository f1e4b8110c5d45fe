/-! THE MODEL'S NIGHTS IN A ROW -/
def lgN (ok : Nat → Nat → Nat → Bool) : Nat → Nat → Nat → Nat
  | 0, _, _ => 0
  | f + 1, k, u => zF (ok k u) (fun best c => max best (1 + lgN ok f (k + 1) (u ||| c))) 0 1024
theorem zF_inv {α : Type} {ok : Nat → Bool} {step : α → Nat → α} {a : α} (P : α → Prop) (h0 : P a) (hs : ∀ x c, P x → P (step x c)) : ∀ k, P (zF ok step a k)
  | 0 => h0
  | k + 1 => by
    rw [zF]
    split
    · exact hs _ _ (zF_inv P h0 hs k)
    · exact zF_inv P h0 hs k
theorem lgN_le {ok : Nat → Nat → Nat → Bool} : ∀ f k u, lgN ok f k u ≤ f
  | 0, _, _ => Nat.le_refl _
  | f + 1, k, u => by
    rw [lgN]
    refine zF_inv (fun x => x ≤ f + 1) (by omega) (fun x c hx => ?_) 1024
    have := lgN_le (ok := ok) f (k + 1) (u ||| c)
    omega
def lOk (ok : Nat → Nat → Nat → Bool) (T : Nat → Int32) : Prop := ∀ k u, k < 11 → u < 1024 → T (1024 * k + u) = -1 ∨ T (1024 * k + u) = nI (lgN ok (11 - k) k u)
theorem byte_s {v : Nat} (h : v < 128) : (nI v).toInt8.toInt32 = nI v := by
  have : ∀ v, v < 128 → (nI v).toInt8.toInt32 = nI v := by decide
  exact this v h
theorem or_lt {a b : Nat} (ha : a < 1024) (hb : b < 1024) : a ||| b < 1024 := Nat.or_lt_two_pow (n := 10) ha hb
theorem zOk_0 {K : KR} {n away hushed k u : Nat} : zOk K n away hushed k u 0 = false := zCrew_0 (by unfold zNeed; split <;> omega)
theorem zF_1 {α : Type} {ok : Nat → Bool} {step : α → Nat → α} {a : α} (h : ok 0 = false) : zF ok step a 1 = a := by
  rw [zF, if_neg (by rw [h]; exact Bool.false_ne_true)]
  rfl
section Rec
variable {E : JE} {L : ML} {ph : HP}
theorem c_crewInK {M : MM} {K : KR} (e : M.2.2.1 2 = K) {b n away hushed : Nat} (hK : KOk K b n) (hN : nOk K n away hushed M) (ha : away < 1024) (hh : hushed < 1024) {night used c : Nat} (hni : night < 11) (hu : used < 1024) (hc : c < 1024) : MC E fX6_crewIn L M ph [.int (nI night), .int (nI used), .int (nI c)] (rI fun r M' => r = oI (zNext (zOk K n away hushed night used) c) ∧ nOk K n away hushed M' ∧ mX [8, 22, 23, 24] [25, 31, 32] M M') := by
  subst e
  exact c_X6_crewIn hK hN ha hh hni hu hc
theorem oI_m1 {o : Option Nat} (ho : ∀ j, o = some j → j < 1024) : oI o = -1 ↔ o = none := by
  cases o with
  | none => exact ⟨fun _ => rfl, fun _ => rfl⟩
  | some j =>
    have := ho j rfl
    refine ⟨fun z => ?_, fun z => by cases z⟩
    rw [show oI (some j) = nI j from rfl, i_eq, t_nI (by omega), t_m1] at z
    omega
theorem c_X6_longestFrom {K : KR} {b n away hushed : Nat} (hK : KOk K b n) (ha : away < 1024) (hh : hushed < 1024) : ∀ f k, k + f = 11 → ∀ (M : MM) (u : Nat), M.2.2.1 2 = K → nOk K n away hushed M → lOk (zOk K n away hushed) (M.2.2.1 33) → u < 1024 → MC E (fX6_longestFrom (900 + f)) L M ph [.int (nI k), .int (nI u)] (rI fun r M' => r = nI (lgN (zOk K n away hushed) f k u) ∧ nOk K n away hushed M' ∧ lOk (zOk K n away hushed) (M'.2.2.1 33) ∧ mX [8, 22, 23, 24] [25, 31, 32, 33] M M') := by
  intro f
  induction f with
  | zero =>
    intro k hk M u e hN hl hu
    refine Ct.of [some (.ref (L.1 52)), some (.int (nI k)), some (.int (nI u)), none, none, none, none] rfl (Nat.le_of_ble_eq_true rfl) (show plainName RX6 = true by decide +kernel) rfl ?_
    refine G.iload_n1 dX6_longestFrom_0 ?_
    refine G.bipush (v := nI 10) dX6_longestFrom_1 (by decide) ?_
    refine G.icmp_le (tgt := 8) dX6_longestFrom_3 (by decide) (fun c_3 => ?_) (fun c_3 => ?_)
    · exact absurd ((nI_leI (by omega) (by omega)).mp c_3) (by omega)
    · refine G.iconst (v := nI 0) dX6_longestFrom_6 (by decide) ?_
      refine G.ireturn dX6_longestFrom_7 ?_
      exact ⟨_, rfl, _, rfl, rfl, hN, hl, mX.rf⟩
  | succ f ih =>
    intro k hk M u e hN hl hu
    refine Ct.of [some (.ref (L.1 52)), some (.int (nI k)), some (.int (nI u)), none, none, none, none] rfl (Nat.le_of_ble_eq_true rfl) (show plainName RX6 = true by decide +kernel) rfl ?_
    have hv := hl k u (by omega) hu
    rw [show 11 - k = f + 1 from by omega] at hv
    have loop : ∀ d c (M2 : MM) (a6 : Option Value), c + d = 1023 → M2.2.2.1 2 = K → nOk K n away hushed M2 → lOk (zOk K n away hushed) (M2.2.2.1 33) → mX [8, 22, 23, 24] [25, 31, 32, 33] M M2 → G E (fX6_longestFrom (900 + (f + 1))) (mFin E (fX6_longestFrom (900 + (f + 1))) L ph (rI fun r M' => r = nI (lgN (zOk K n away hushed) (f + 1) k u) ∧ nOk K n away hushed M' ∧ lOk (zOk K n away hushed) (M'.2.2.1 33) ∧ mX [8, 22, 23, 24] [25, 31, 32, 33] M M')) 45 [some (.ref (L.1 52)), some (.int (nI k)), some (.int (nI u)), some (.int (nI (1024 * k + u))), some (.int (nI (zF (zOk K n away hushed k u) (fun best c => max best (1 + lgN (zOk K n away hushed) f (k + 1) (u ||| c))) 0 (c + 1)))), some (.int (oI (zNext (zOk K n away hushed k u) c))), a6] [] (movl L M2 ph) 0 0 := by
      intro d
      induction d using Nat.strongRecOn with
      | ind d ihd =>
        intro c M2 a6 hcd e2 hN2 hl2 hx2
        have hbest : ∀ j, zF (zOk K n away hushed k u) (fun best c => max best (1 + lgN (zOk K n away hushed) f (k + 1) (u ||| c))) 0 j ≤ f + 1 := by
          refine zF_inv (fun x => x ≤ f + 1) (by omega) (fun x c hx => ?_)
          have := lgN_le (ok := zOk K n away hushed) f (k + 1) (u ||| c)
          omega
        have hb1 := hbest (c + 1)
        have hsm : ∀ j, zNext (zOk K n away hushed k u) c = some j → j < 1024 := fun j z => (zNext_some z).2.1
        refine G.iload5 dX6_longestFrom_45 ?_
        refine G.iconst (v := -1) dX6_longestFrom_47 (by decide) ?_
        refine G.icmp_eq (tgt := 95) dX6_longestFrom_48 (by decide) (fun c_48 => ?_) (fun c_48 => ?_)
        · have hz := (oI_m1 hsm).mp c_48
          have hend := zF_end (step := (fun best c => max best (1 + lgN (zOk K n away hushed) f (k + 1) (u ||| c)))) (a := 0) hz (by omega)
          rw [← hend]
          have hb2 := hbest 1024
          refine G.aload_n0 dX6_longestFrom_95 ?_
          refine G.mgeta 33 fl_X6_80 dX6_longestFrom_96 ?_
          refine G.iload_n3 dX6_longestFrom_99 ?_
          refine G.iload4 dX6_longestFrom_100 ?_
          refine G.i2b dX6_longestFrom_102 rfl ?_
          rw [byte_s (by omega)]
          refine G.mbast (n := 11264) 33 (1024 * k + u) dX6_longestFrom_103 rfl (by omega) ?_
          rw [byte_s (by omega)]
          refine G.iload4 dX6_longestFrom_104 ?_
          refine G.ireturn dX6_longestFrom_106 ?_
          refine ⟨_, rfl, _, rfl, rfl, hN2.mv (mX.rf.ma (by decide)), ?_, hx2.ma (by decide)⟩
          intro k' u' h1 h2
          rw [ma_at, if_pos rfl]
          split
          · rename_i q
            obtain ⟨rfl, rfl⟩ : k' = k ∧ u' = u := by omega
            rw [show 11 - k' = f + 1 from by omega]
            exact Or.inr rfl
          · exact hl2 k' u' h1 h2
        · obtain ⟨j, hz⟩ : ∃ j, zNext (zOk K n away hushed k u) c = some j := by
            cases h9 : zNext (zOk K n away hushed k u) c with
            | none => rw [h9] at c_48; exact absurd rfl c_48
            | some j => exact ⟨j, rfl⟩
          obtain ⟨hj1, hj2, -, -⟩ := zNext_some hz
          rw [hz, show oI (some j) = nI j from rfl]
          have hnext := zF_next (step := (fun best c => max best (1 + lgN (zOk K n away hushed) f (k + 1) (u ||| c)))) (a := 0) hz
          have huj := or_lt hu hj2
          have hlg := lgN_le (ok := zOk K n away hushed) f (k + 1) (u ||| j)
          refine G.iconst (v := nI 1) dX6_longestFrom_51 (by decide) ?_
          refine G.aload_n0 dX6_longestFrom_52 ?_
          refine G.iload_n1 dX6_longestFrom_53 ?_
          refine G.iconst (v := nI 1) dX6_longestFrom_54 (by decide) ?_
          first | with_reducible refine G.iaddn dX6_longestFrom_55 ?_ | refine G.iadd dX6_longestFrom_55 ?_
          refine G.iload_n2 dX6_longestFrom_56 ?_
          refine G.iload5 dX6_longestFrom_57 ?_
          refine G.ior dX6_longestFrom_59 ?_
          rw [b_or (by omega) (by omega)]
          refine G.mcall (f' := fX6_longestFrom (900 + f)) q2252 (ck_X6_longestFrom _) (ih (k + 1) (by omega) M2 (u ||| j) e2 hN2 hl2 huj) dX6_longestFrom_60 (rI.k fun r_60 M_60 h_60 => ?_) (hroom := jroom_of rfl rfl (by omega) (Nat.le_of_ble_eq_true rfl))
          obtain ⟨rfl, g1, g2, g3⟩ := h_60
          have e3 : M_60.2.2.1 2 = K := (g3.2.2.1 2 (by decide)).trans e2
          have hx3 : mX [8, 22, 23, 24] [25, 31, 32, 33] M M_60 := hx2.tr g3 (by simp) (by simp)
          first | with_reducible refine G.iaddn dX6_longestFrom_63 ?_ | refine G.iadd dX6_longestFrom_63 ?_
          refine G.istore6 dX6_longestFrom_64 ?_
          refine G.iload6 dX6_longestFrom_66 ?_
          refine G.iload4 dX6_longestFrom_68 ?_
          refine G.icmp_le (tgt := 78) dX6_longestFrom_70 (by decide) (fun c_70 => ?_) (fun c_70 => ?_)
          · have n_70 : 1 + lgN (zOk K n away hushed) f (k + 1) (u ||| j) ≤ zF (zOk K n away hushed k u) (fun best c => max best (1 + lgN (zOk K n away hushed) f (k + 1) (u ||| c))) 0 (c + 1) := (nI_leI (a := 1 + lgN (zOk K n away hushed) f (k + 1) (u ||| j)) (b := zF (zOk K n away hushed k u) (fun best c => max best (1 + lgN (zOk K n away hushed) f (k + 1) (u ||| c))) 0 (c + 1)) (by omega) (by omega)).mp c_70
            refine G.iload4 dX6_longestFrom_78 ?_
            refine G.istore4 dX6_longestFrom_80 ?_
            refine G.aload_n0 dX6_longestFrom_82 ?_
            refine G.iload_n1 dX6_longestFrom_83 ?_
            refine G.iload_n2 dX6_longestFrom_84 ?_
            refine G.iload5 dX6_longestFrom_85 ?_
            refine G.mcall (f' := fX6_crewIn) q2256 ck_X6_crewIn (c_crewInK e3 hK g1 ha hh (night := k) (c := j) (by omega) hu hj2) dX6_longestFrom_87 (rI.k fun r_87 M_87 h_87 => ?_) (hroom := jroom_of rfl rfl (by omega) (Nat.le_of_ble_eq_true rfl))
            have e87 := h_87.1
            have q1 := h_87.2.1
            have q2 := h_87.2.2
            clear h_87
            rw [e87]
            have e4 : M_87.2.2.1 2 = K := (q2.2.2.1 2 (by decide)).trans e3
            have hgo := ihd (1023 - j) (by omega) j M_87 (some (.int (nI (1 + lgN (zOk K n away hushed) f (k + 1) (u ||| j))))) (by omega) e4 q1 (by rw [q2.2.2.1 33 (by decide)]; exact g2) (hx3.tr q2 (by simp) (by simp))
            rw [hnext] at hgo
            refine G.istore5 dX6_longestFrom_90 ?_
            refine G.goto (tgt := 45) dX6_longestFrom_92 (by decide) ?_
            first
            | (rw [Nat.max_eq_left (by omega)] at hgo; exact hgo)
            | (rw [Nat.max_eq_right (by omega)] at hgo; exact hgo)
          · have n_70 : zF (zOk K n away hushed k u) (fun best c => max best (1 + lgN (zOk K n away hushed) f (k + 1) (u ||| c))) 0 (c + 1) < 1 + lgN (zOk K n away hushed) f (k + 1) (u ||| j) := Nat.lt_of_not_le (fun z => c_70 ((nI_leI (a := 1 + lgN (zOk K n away hushed) f (k + 1) (u ||| j)) (b := zF (zOk K n away hushed k u) (fun best c => max best (1 + lgN (zOk K n away hushed) f (k + 1) (u ||| c))) 0 (c + 1)) (by omega) (by omega)).mpr z))
            refine G.iload6 dX6_longestFrom_73 ?_
            refine G.goto (tgt := 80) dX6_longestFrom_75 (by decide) ?_
            refine G.istore4 dX6_longestFrom_80 ?_
            refine G.aload_n0 dX6_longestFrom_82 ?_
            refine G.iload_n1 dX6_longestFrom_83 ?_
            refine G.iload_n2 dX6_longestFrom_84 ?_
            refine G.iload5 dX6_longestFrom_85 ?_
            refine G.mcall (f' := fX6_crewIn) q2256 ck_X6_crewIn (c_crewInK e3 hK g1 ha hh (night := k) (c := j) (by omega) hu hj2) dX6_longestFrom_87 (rI.k fun r_87 M_87 h_87 => ?_) (hroom := jroom_of rfl rfl (by omega) (Nat.le_of_ble_eq_true rfl))
            have e87 := h_87.1
            have q1 := h_87.2.1
            have q2 := h_87.2.2
            clear h_87
            rw [e87]
            have e4 : M_87.2.2.1 2 = K := (q2.2.2.1 2 (by decide)).trans e3
            have hgo := ihd (1023 - j) (by omega) j M_87 (some (.int (nI (1 + lgN (zOk K n away hushed) f (k + 1) (u ||| j))))) (by omega) e4 q1 (by rw [q2.2.2.1 33 (by decide)]; exact g2) (hx3.tr q2 (by simp) (by simp))
            rw [hnext] at hgo
            refine G.istore5 dX6_longestFrom_90 ?_
            refine G.goto (tgt := 45) dX6_longestFrom_92 (by decide) ?_
            first
            | (rw [Nat.max_eq_left (by omega)] at hgo; exact hgo)
            | (rw [Nat.max_eq_right (by omega)] at hgo; exact hgo)
    refine G.iload_n1 dX6_longestFrom_0 ?_
    refine G.bipush (v := nI 10) dX6_longestFrom_1 (by decide) ?_
    refine G.icmp_le (tgt := 8) dX6_longestFrom_3 (by decide) (fun c_3 => ?_) (fun c_3 => ?_)
    · refine G.sipush (v := nI 1024) dX6_longestFrom_8 (by decide) ?_
      refine G.iload_n1 dX6_longestFrom_11 ?_
      first | with_reducible refine G.imuln dX6_longestFrom_12 ?_ | refine G.imul dX6_longestFrom_12 ?_
      refine G.iload_n2 dX6_longestFrom_13 ?_
      first | with_reducible refine G.iaddn dX6_longestFrom_14 ?_ | refine G.iadd dX6_longestFrom_14 ?_
      refine G.istore_n3 dX6_longestFrom_15 ?_
      refine G.aload_n0 dX6_longestFrom_16 ?_
      refine G.mgeta 33 fl_X6_80 dX6_longestFrom_17 ?_
      refine G.iload_n3 dX6_longestFrom_20 ?_
      refine G.mbald (n := 11264) 33 (1024 * k + u) dX6_longestFrom_21 rfl (by omega) ?_
      refine G.iconst (v := -1) dX6_longestFrom_22 (by decide) ?_
      refine G.icmp_eq (tgt := 33) dX6_longestFrom_23 (by decide) (fun c_23 => ?_) (fun c_23 => ?_)
      · refine G.iconst (v := nI 0) dX6_longestFrom_33 (by decide) ?_
        refine G.istore4 dX6_longestFrom_34 ?_
        refine G.aload_n0 dX6_longestFrom_36 ?_
        refine G.iload_n1 dX6_longestFrom_37 ?_
        refine G.iload_n2 dX6_longestFrom_38 ?_
        refine G.iconst (v := nI 0) dX6_longestFrom_39 (by decide) ?_
        refine G.mcall (f' := fX6_crewIn) q2256 ck_X6_crewIn (c_crewInK e hK hN ha hh (night := k) (c := 0) (by omega) hu (by omega)) dX6_longestFrom_40 (rI.k fun r_40 M_40 h_40 => ?_) (hroom := jroom_of rfl rfl (by omega) (Nat.le_of_ble_eq_true rfl))
        have e40 := h_40.1
        have q1 := h_40.2.1
        have q2 := h_40.2.2
        clear h_40
        rw [e40]
        refine G.istore5 dX6_longestFrom_43 ?_
        have := loop 1023 0 M_40 none (by omega) ((q2.2.2.1 2 (by decide)).trans e) q1 (by rw [q2.2.2.1 33 (by decide)]; exact hl) (q2.mono (by simp) (by simp))
        rw [zF_1 zOk_0] at this
        exact this
      · refine G.aload_n0 dX6_longestFrom_26 ?_
        refine G.mgeta 33 fl_X6_80 dX6_longestFrom_27 ?_
        refine G.iload_n3 dX6_longestFrom_30 ?_
        refine G.mbald (n := 11264) 33 (1024 * k + u) dX6_longestFrom_31 rfl (by omega) ?_
        refine G.ireturn dX6_longestFrom_32 ?_
        exact ⟨_, rfl, _, rfl, hv.resolve_left c_23, hN, hl, mX.rf⟩
    · exact absurd ((nI_leI (by omega) (by omega)).mpr (by omega)) c_3
end Rec
