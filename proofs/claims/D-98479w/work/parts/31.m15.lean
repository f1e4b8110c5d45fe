/-! THE MODEL'S NIGHTS: who may light, crews of a night -/
theorem kSp_le {K : KR} {p q : Nat} : kSp K p q ≤ 2 := by
  unfold kSp
  split
  · exact kSpoils_r.2
  · omega
theorem zHs_le {K : KR} {hushed p used : Nat} : ∀ q, zHs K hushed p used q ≤ 2 * q
  | 0 => Nat.le_refl _
  | q + 1 => by
    have := zHs_le (K := K) (hushed := hushed) (p := p) (used := used) q
    have := kSp_le (K := K) (p := q) (q := p)
    rw [zHs]
    split <;> omega
theorem zHs_mono {K : KR} {hushed p used q : Nat} : ∀ d, zHs K hushed p used q ≤ zHs K hushed p used (q + d)
  | 0 => Nat.le_refl _
  | d + 1 => by
    have := zHs_mono (K := K) (hushed := hushed) (p := p) (used := used) (q := q) d
    rw [show q + (d + 1) = (q + d) + 1 from rfl, zHs]
    split <;> omega
theorem zHs_hush {K : KR} {hushed p used : Nat} (h : hushed.testBit p = true) : ∀ q, zHs K hushed p used q = 0
  | 0 => rfl
  | q + 1 => by rw [zHs, zHs_hush h q, h, Bool.not_true, Bool.and_false, if_neg Bool.false_ne_true]
section Nights
variable {E : JE} {L : ML} {ph : HP}
theorem c_X6_heardBy {M : MM} {b n away hushed : Nat} (hK : KOk (M.2.2.1 2) b n) (hN : nOk (M.2.2.1 2) n away hushed M) (hh : hushed < 1024) {p used : Nat} (hp : p < n) (hu : used < 1024) : MC E fX6_heardBy L M ph [.int (nI p), .int (nI used)] (rI fun r M' => r = nI (zHeard (M.2.2.1 2) n hushed p used) ∧ M' = M) := by
  have h10 := hK.1.1
  have hhd := hK.heard hp
  obtain ⟨-, hsp, -, h35, -⟩ := hN
  refine Ct.of [some (.ref (L.1 52)), some (.int (nI p)), some (.int (nI used)), none, none] rfl (Nat.le_of_ble_eq_true rfl) (show plainName RX6 = true by decide +kernel) rfl ?_
  have k80 : ∀ (cur : Nat) (a4 : Option Value), cur < 1000 → min 2 cur = zHeard (M.2.2.1 2) n hushed p used → G E fX6_heardBy (mFin E fX6_heardBy L ph (rI fun r M' => r = nI (zHeard (M.2.2.1 2) n hushed p used) ∧ M' = M)) 80 [some (.ref (L.1 52)), some (.int (nI p)), some (.int (nI used)), some (.int (nI cur)), a4] [] (movl L M ph) 0 0 := by
    intro cur a4 hcur hmin
    refine G.iconst (v := nI 2) dX6_heardBy_80 (by decide) ?_
    refine G.iload_n3 dX6_heardBy_81 ?_
    refine G.scall (f' := fX6_lesser) q2225 ck_X6_lesser (c_X6_lesser E _ _) dX6_heardBy_82 (sI.k fun r_82 h_82 => ?_)
    replace h_82 := h_82.symm; subst h_82
    refine G.ireturn dX6_heardBy_85 ?_
    exact ⟨_, rfl, _, rfl, by rw [n_min (by omega) (by omega), hmin], rfl⟩
  have loop : ∀ d i, i + d = n → G E fX6_heardBy (mFin E fX6_heardBy L ph (rI fun r M' => r = nI (zHeard (M.2.2.1 2) n hushed p used) ∧ M' = M)) 13 [some (.ref (L.1 52)), some (.int (nI p)), some (.int (nI used)), some (.int (nI (kHeard (M.2.2.1 2) p + zHs (M.2.2.1 2) hushed p used i))), some (.int (nI i))] [] (movl L M ph) 0 0 := by
    intro d
    induction d with
    | zero =>
      intro i hi
      have hle := zHs_le (K := M.2.2.1 2) (hushed := hushed) (p := p) (used := used) i
      refine G.iload4 dX6_heardBy_13 ?_
      refine G.aload_n0 dX6_heardBy_15 ?_
      refine G.mcall (f' := fX6_people) q1938 ck_X6_people (c_X6_people E L _ ph) dX6_heardBy_16 (rI.k fun r_16 M_16 h_16 => ?_)
      obtain ⟨e_16, h_16⟩ := h_16; replace e_16 := e_16.symm; replace h_16 := h_16.symm; subst e_16; subst h_16
      rw [hK.1.2]
      refine G.icmp_ge (tgt := 80) dX6_heardBy_19 (by decide) (fun c_19 => ?_) (fun c_19 => ?_)
      · exact k80 _ _ (by omega) (by unfold zHeard; rw [show i = n from by omega])
      · exact absurd (nI_leI (by omega) (by omega) |>.mpr (by omega)) c_19
    | succ d ih =>
      intro i hi
      have hle := zHs_le (K := M.2.2.1 2) (hushed := hushed) (p := p) (used := used) i
      have hmo := zHs_mono (K := M.2.2.1 2) (hushed := hushed) (p := p) (used := used) (q := i) (d + 1)
      rw [hi] at hmo
      have hgo := ih (i + 1) (by omega)
      clear ih
      refine G.iload4 dX6_heardBy_13 ?_
      refine G.aload_n0 dX6_heardBy_15 ?_
      refine G.mcall (f' := fX6_people) q1938 ck_X6_people (c_X6_people E L _ ph) dX6_heardBy_16 (rI.k fun r_16 M_16 h_16 => ?_)
      obtain ⟨e_16, h_16⟩ := h_16; replace e_16 := e_16.symm; replace h_16 := h_16.symm; subst e_16; subst h_16
      rw [hK.1.2]
      refine G.icmp_ge (tgt := 80) dX6_heardBy_19 (by decide) (fun c_19 => ?_) (fun c_19 => ?_)
      · exact absurd ((nI_leI (by omega) (by omega)).mp c_19) (by omega)
      · refine G.iload_n3 dX6_heardBy_22 ?_
        refine G.iconst (v := nI 2) dX6_heardBy_23 (by decide) ?_
        refine G.icmp_ge (tgt := 80) dX6_heardBy_24 (by decide) (fun c_24 => ?_) (fun c_24 => ?_)
        · have n_24 : 2 ≤ kHeard (M.2.2.1 2) p + zHs (M.2.2.1 2) hushed p used i := (nI_leI (a := 2) (b := kHeard (M.2.2.1 2) p + zHs (M.2.2.1 2) hushed p used i) (by omega) (by omega)).mp c_24
          first
          | exact k80 _ _ (by omega) (by unfold zHeard; omega)
          | exact k80 _ _ (by omega) (by unfold zHeard; rw [zHs_hush c_35, zHs_hush c_35])
        · have n_24 : kHeard (M.2.2.1 2) p + zHs (M.2.2.1 2) hushed p used i < 2 := Nat.lt_of_not_le (fun z => c_24 ((nI_leI (a := 2) (b := kHeard (M.2.2.1 2) p + zHs (M.2.2.1 2) hushed p used i) (by omega) (by omega)).mpr z))
          refine G.aload_n0 dX6_heardBy_27 ?_
          refine G.mgeti 35 fl_X6_358 dX6_heardBy_28 ?_
          refine G.iload_n1 dX6_heardBy_31 ?_
          rw [h35]
          refine G.scall (f' := fX6_isIn) q2211 ck_X6_isIn (c_isIn E hushed p (by omega) (by omega)) dX6_heardBy_32 (sI.k fun r_32 h_32 => ?_)
          replace h_32 := h_32.symm; subst h_32
          refine G.ifb_ne (tgt := 80) dX6_heardBy_35 (by decide) (fun c_35 => ?_) (fun c_35 => ?_)
          · first
            | exact k80 _ _ (by omega) (by unfold zHeard; omega)
            | exact k80 _ _ (by omega) (by unfold zHeard; rw [zHs_hush c_35, zHs_hush c_35])
          · refine G.iload_n2 dX6_heardBy_38 ?_
            refine G.iload4 dX6_heardBy_39 ?_
            refine G.scall (f' := fX6_isIn) q2211 ck_X6_isIn (c_isIn E used i (by omega) (by omega)) dX6_heardBy_41 (sI.k fun r_41 h_41 => ?_)
            replace h_41 := h_41.symm; subst h_41
            refine G.ifb_eq (tgt := 74) dX6_heardBy_44 (by decide) (fun c_44 => ?_) (fun c_44 => ?_)
            · refine G.iinc4 dX6_heardBy_74 ?_
              try rw [show ∀ a : Nat, nI a + Int32.ofInt 1 = nI (a + 1) from fun a => nI_add a 1]
              refine G.goto (tgt := 13) dX6_heardBy_77 (by decide) ?_
              first
                | (rw [zHs, c_44, Bool.false_and, Bool.false_and, if_neg Bool.false_ne_true] at hgo
                   exact hgo)
                | (rw [zHs, c_56, Bool.not_true, Bool.and_false, Bool.false_and, if_neg Bool.false_ne_true] at hgo
                   exact hgo)
                | (rw [zHs, c_44, c_56, c_35, Bool.not_false, Bool.true_and, Bool.true_and, if_pos rfl, ← Nat.add_assoc] at hgo
                   exact hgo)
            · refine G.aload_n0 dX6_heardBy_47 ?_
              refine G.mgeti 35 fl_X6_358 dX6_heardBy_48 ?_
              refine G.iload4 dX6_heardBy_51 ?_
              rw [h35]
              refine G.scall (f' := fX6_isIn) q2211 ck_X6_isIn (c_isIn E hushed i (by omega) (by omega)) dX6_heardBy_53 (sI.k fun r_53 h_53 => ?_)
              replace h_53 := h_53.symm; subst h_53
              refine G.ifb_ne (tgt := 74) dX6_heardBy_56 (by decide) (fun c_56 => ?_) (fun c_56 => ?_)
              · refine G.iinc4 dX6_heardBy_74 ?_
                try rw [show ∀ a : Nat, nI a + Int32.ofInt 1 = nI (a + 1) from fun a => nI_add a 1]
                refine G.goto (tgt := 13) dX6_heardBy_77 (by decide) ?_
                first
                  | (rw [zHs, c_44, Bool.false_and, Bool.false_and, if_neg Bool.false_ne_true] at hgo
                     exact hgo)
                  | (rw [zHs, c_56, Bool.not_true, Bool.and_false, Bool.false_and, if_neg Bool.false_ne_true] at hgo
                     exact hgo)
                  | (rw [zHs, c_44, c_56, c_35, Bool.not_false, Bool.true_and, Bool.true_and, if_pos rfl, ← Nat.add_assoc] at hgo
                     exact hgo)
              · refine G.iload_n3 dX6_heardBy_59 ?_
                refine G.aload_n0 dX6_heardBy_60 ?_
                refine G.mgeta 30 fl_X6_71 dX6_heardBy_61 ?_
                refine G.bipush (v := nI 10) dX6_heardBy_64 (by decide) ?_
                refine G.iload4 dX6_heardBy_66 ?_
                first | with_reducible refine G.imuln dX6_heardBy_68 ?_ | refine G.imul dX6_heardBy_68 ?_
                refine G.iload_n1 dX6_heardBy_69 ?_
                first | with_reducible refine G.iaddn dX6_heardBy_70 ?_ | refine G.iadd dX6_heardBy_70 ?_
                refine G.miald (n := 100) 30 _ dX6_heardBy_71 rfl (by omega) ?_
                rw [hsp i p (by omega) hp]
                first | with_reducible refine G.iaddn dX6_heardBy_72 ?_ | refine G.iadd dX6_heardBy_72 ?_
                refine G.istore_n3 dX6_heardBy_73 ?_
                refine G.iinc4 dX6_heardBy_74 ?_
                try rw [show ∀ a : Nat, nI a + Int32.ofInt 1 = nI (a + 1) from fun a => nI_add a 1]
                refine G.goto (tgt := 13) dX6_heardBy_77 (by decide) ?_
                first
                  | (rw [zHs, c_44, Bool.false_and, Bool.false_and, if_neg Bool.false_ne_true] at hgo
                     exact hgo)
                  | (rw [zHs, c_56, Bool.not_true, Bool.and_false, Bool.false_and, if_neg Bool.false_ne_true] at hgo
                     exact hgo)
                  | (rw [zHs, c_44, c_56, c_35, Bool.not_false, Bool.true_and, Bool.true_and, if_pos rfl, ← Nat.add_assoc] at hgo
                     exact hgo)
  refine G.aload_n0 dX6_heardBy_0 ?_
  refine G.mgeta 2 fl_X6_24 dX6_heardBy_1 ?_
  refine G.bipush (v := nI 20) dX6_heardBy_4 (by decide) ?_
  refine G.iload_n1 dX6_heardBy_6 ?_
  first | with_reducible refine G.iaddn dX6_heardBy_7 ?_ | refine G.iadd dX6_heardBy_7 ?_
  refine G.miald (n := 5866) 2 _ dX6_heardBy_8 rfl (by omega) ?_
  rw [hhd.1]
  refine G.istore_n3 dX6_heardBy_9 ?_
  refine G.iconst (v := nI 0) dX6_heardBy_10 (by decide) ?_
  refine G.istore4 dX6_heardBy_11 ?_
  exact loop n 0 (by omega)
theorem nOk.mv {K : KR} {n away hushed : Nat} {M M' : MM} (h : nOk K n away hushed M) (hx : mX [8, 22, 23, 24] [25, 32, 33, 36, 37, 38, 39, 40] M M') : nOk K n away hushed M' := by
  unfold nOk
  rw [hx.2.2.1 29 (by decide), hx.2.2.1 30 (by decide), hx.1 34 (by decide), hx.1 35 (by decide), hx.2.2.1 31 (by decide)]
  exact h
theorem c_X6_isBarredOn {M : MM} {b n away hushed : Nat} (hK : KOk (M.2.2.1 2) b n) (hN : nOk (M.2.2.1 2) n away hushed M) {p night heard : Nat} (hp : p < n) (hni : night < 11) (hhe : heard < 2) : MC E fX6_isBarredOn L M ph [.int (nI p), .int (nI night), .int (nI heard), .int (bI (fogOf (M.2.2.1 2) (kDay (M.2.2.1 2) + night)))] (rI fun r M' => r = bI (kBarred (M.2.2.1 2) p (nI heard) (nI (kDay (M.2.2.1 2) + night)) (fogOf (M.2.2.1 2) (kDay (M.2.2.1 2) + night))) ∧ nOk (M.2.2.1 2) n away hushed M' ∧ mX [8, 22, 23, 24] [25, 31] M M') := by
  have h10 := hK.1.1
  have hday := hK.day
  have hN' := hN
  obtain ⟨-, -, -, -, hbar⟩ := hN'
  have hb := hbar p night heard hp hni hhe
  generalize hB : kBarred (M.2.2.1 2) p (nI heard) (nI (kDay (M.2.2.1 2) + night)) (fogOf (M.2.2.1 2) (kDay (M.2.2.1 2) + night)) = B at hb ⊢
  refine Ct.of [some (.ref (L.1 52)), some (.int (nI p)), some (.int (nI night)), some (.int (nI heard)), some (.int (bI (fogOf (M.2.2.1 2) (kDay (M.2.2.1 2) + night)))), none] rfl (Nat.le_of_ble_eq_true rfl) (show plainName RX6 = true by decide +kernel) rfl ?_
  have k55 : ∀ M2, M2.2.2.1 31 ((p * 11 + night) * 3 + heard) = nI (if B then 2 else 1) → nOk (M.2.2.1 2) n away hushed M2 → mX [8, 22, 23, 24] [25, 31] M M2 → G E fX6_isBarredOn (mFin E fX6_isBarredOn L ph (rI fun r M' => r = bI B ∧ nOk (M.2.2.1 2) n away hushed M' ∧ mX [8, 22, 23, 24] [25, 31] M M')) 55 [some (.ref (L.1 52)), some (.int (nI p)), some (.int (nI night)), some (.int (nI heard)), some (.int (bI (fogOf (M.2.2.1 2) (kDay (M.2.2.1 2) + night)))), some (.int (nI ((p * 11 + night) * 3 + heard)))] [] (movl L M2 ph) 0 0 := by
    intro M2 h1 h2 h3
    refine G.aload_n0 dX6_isBarredOn_55 ?_
    refine G.mgeta 31 fl_X6_74 dX6_isBarredOn_56 ?_
    refine G.iload5 dX6_isBarredOn_59 ?_
    refine G.mbald (n := 330) 31 ((p * 11 + night) * 3 + heard) dX6_isBarredOn_61 rfl (by omega) ?_
    refine G.iconst (v := nI 2) dX6_isBarredOn_62 (by decide) ?_
    rw [h1]
    refine G.icmp_ne (tgt := 70) dX6_isBarredOn_63 (by decide) (fun c_63 => ?_) (fun c_63 => ?_)
    · refine G.iconst (v := nI 0) dX6_isBarredOn_70 (by decide) ?_
      refine G.ireturn dX6_isBarredOn_71 ?_ (hn := by first | rfl | exact bI_nar _)
      refine ⟨_, rfl, _, rfl, ?_, h2, h3⟩
      cases B with
      | true => first | rfl | exact absurd rfl c_63
      | false => first | rfl | exact absurd c_63 (by decide)
    · refine G.iconst (v := nI 1) dX6_isBarredOn_66 (by decide) ?_
      refine G.goto (tgt := 71) dX6_isBarredOn_67 (by decide) ?_
      refine G.ireturn dX6_isBarredOn_71 ?_ (hn := by first | rfl | exact bI_nar _)
      refine ⟨_, rfl, _, rfl, ?_, h2, h3⟩
      cases B with
      | true => first | rfl | exact absurd rfl c_63
      | false => first | rfl | exact absurd c_63 (by decide)
  refine G.iload_n1 dX6_isBarredOn_0 ?_
  refine G.bipush (v := nI 11) dX6_isBarredOn_1 (by decide) ?_
  first | with_reducible refine G.imuln dX6_isBarredOn_3 ?_ | refine G.imul dX6_isBarredOn_3 ?_
  refine G.iload_n2 dX6_isBarredOn_4 ?_
  first | with_reducible refine G.iaddn dX6_isBarredOn_5 ?_ | refine G.iadd dX6_isBarredOn_5 ?_
  refine G.iconst (v := nI 3) dX6_isBarredOn_6 (by decide) ?_
  first | with_reducible refine G.imuln dX6_isBarredOn_7 ?_ | refine G.imul dX6_isBarredOn_7 ?_
  refine G.iload_n3 dX6_isBarredOn_8 ?_
  first | with_reducible refine G.iaddn dX6_isBarredOn_9 ?_ | refine G.iadd dX6_isBarredOn_9 ?_
  refine G.istore5 dX6_isBarredOn_10 ?_
  refine G.aload_n0 dX6_isBarredOn_12 ?_
  refine G.mgeta 31 fl_X6_74 dX6_isBarredOn_13 ?_
  refine G.iload5 dX6_isBarredOn_16 ?_
  refine G.mbald (n := 330) 31 ((p * 11 + night) * 3 + heard) dX6_isBarredOn_18 rfl (by omega) ?_
  refine G.if_ne (tgt := 55) dX6_isBarredOn_19 (by decide) (fun c_19 => ?_) (fun c_19 => ?_)
  · exact k55 M (hb.resolve_left c_19) hN mX.rf
  · refine G.aload_n0 dX6_isBarredOn_22 ?_
    refine G.mgeta 31 fl_X6_74 dX6_isBarredOn_23 ?_
    refine G.iload5 dX6_isBarredOn_26 ?_
    refine G.aload_n0 dX6_isBarredOn_28 ?_
    refine G.iload_n1 dX6_isBarredOn_29 ?_
    refine G.iload_n3 dX6_isBarredOn_30 ?_
    refine G.aload_n0 dX6_isBarredOn_31 ?_
    refine G.mgeta 2 fl_X6_24 dX6_isBarredOn_32 ?_
    refine G.bipush (v := nI 33) dX6_isBarredOn_35 (by decide) ?_
    refine G.miald (n := 5866) 2 _ dX6_isBarredOn_37 rfl (by omega) ?_
    refine G.iload_n2 dX6_isBarredOn_38 ?_
    rw [hday.1]
    first | with_reducible refine G.iaddn dX6_isBarredOn_39 ?_ | refine G.iadd dX6_isBarredOn_39 ?_
    refine G.iload4 dX6_isBarredOn_40 ?_
    refine G.mcall (f' := fX6_isBarred) q2175 ck_X6_isBarred (c_X6_isBarred hK hp (nI heard) (nI (kDay (M.2.2.1 2) + night)) _ (by rw [t_nI (by omega)]; omega) (by rw [t_nI (by omega)]; omega)) dX6_isBarredOn_42 (rI.k fun r_42 M_42 h_42 => ?_)
    obtain ⟨rfl, g1⟩ := h_42
    rw [hB]
    refine G.ifb_eq (tgt := 52) dX6_isBarredOn_45 (by decide) (fun c_45 => ?_) (fun c_45 => ?_)
    · refine G.iconst (v := nI 1) dX6_isBarredOn_52 (by decide) ?_
      have k53 : ∀ v : Nat, v = (if B then 2 else 1) → G E fX6_isBarredOn (mFin E fX6_isBarredOn L ph (rI fun r M' => r = bI B ∧ nOk (M.2.2.1 2) n away hushed M' ∧ mX [8, 22, 23, 24] [25, 31] M M')) 53 [some (.ref (L.1 52)), some (.int (nI p)), some (.int (nI night)), some (.int (nI heard)), some (.int (bI (fogOf (M.2.2.1 2) (kDay (M.2.2.1 2) + night)))), some (.int (nI ((p * 11 + night) * 3 + heard)))] [.int (nI v), .int (nI ((p * 11 + night) * 3 + heard)), .ref (L.1 31)] (movl L M_42 ph) 0 0 := by
        intro v hv
        have hv2 : (nI v).toInt8.toInt32.toInt8.toInt32 = nI v := by rw [hv]; cases B <;> decide
        have hx4 : mX [8, 22, 23, 24] [25, 31] M (ma M_42 31 ((p * 11 + night) * 3 + heard) (nI v)) := (g1.mono (by simp) (by simp)).ma (by decide)
        refine G.i2b dX6_isBarredOn_53 rfl ?_
        refine G.mbast (n := 330) 31 ((p * 11 + night) * 3 + heard) dX6_isBarredOn_54 rfl (by omega) ?_
        rw [hv2]
        refine k55 _ (by rw [ma_at, if_pos rfl, if_pos rfl, hv]) ?_ hx4
        have hn2 := hN.mv (M' := M_42) (g1.mono (by simp) (by simp))
        refine ⟨hn2.1, hn2.2.1, hn2.2.2.1, hn2.2.2.2.1, fun p' k' h' q1 q2 q3 => ?_⟩
        rw [ma_at, if_pos rfl]
        split
        · rename_i e
          obtain ⟨rfl, rfl, rfl⟩ : p' = p ∧ k' = night ∧ h' = heard := by omega
          rw [hv, hB]
          exact Or.inr rfl
        · exact hn2.2.2.2.2 p' k' h' q1 q2 q3
      first
        | exact k53 2 (by rw [c_45]; rfl)
        | exact k53 1 (by rw [c_45]; rfl)
    · refine G.iconst (v := nI 2) dX6_isBarredOn_48 (by decide) ?_
      refine G.goto (tgt := 53) dX6_isBarredOn_49 (by decide) ?_
      have k53 : ∀ v : Nat, v = (if B then 2 else 1) → G E fX6_isBarredOn (mFin E fX6_isBarredOn L ph (rI fun r M' => r = bI B ∧ nOk (M.2.2.1 2) n away hushed M' ∧ mX [8, 22, 23, 24] [25, 31] M M')) 53 [some (.ref (L.1 52)), some (.int (nI p)), some (.int (nI night)), some (.int (nI heard)), some (.int (bI (fogOf (M.2.2.1 2) (kDay (M.2.2.1 2) + night)))), some (.int (nI ((p * 11 + night) * 3 + heard)))] [.int (nI v), .int (nI ((p * 11 + night) * 3 + heard)), .ref (L.1 31)] (movl L M_42 ph) 0 0 := by
        intro v hv
        have hv2 : (nI v).toInt8.toInt32.toInt8.toInt32 = nI v := by rw [hv]; cases B <;> decide
        have hx4 : mX [8, 22, 23, 24] [25, 31] M (ma M_42 31 ((p * 11 + night) * 3 + heard) (nI v)) := (g1.mono (by simp) (by simp)).ma (by decide)
        refine G.i2b dX6_isBarredOn_53 rfl ?_
        refine G.mbast (n := 330) 31 ((p * 11 + night) * 3 + heard) dX6_isBarredOn_54 rfl (by omega) ?_
        rw [hv2]
        refine k55 _ (by rw [ma_at, if_pos rfl, if_pos rfl, hv]) ?_ hx4
        have hn2 := hN.mv (M' := M_42) (g1.mono (by simp) (by simp))
        refine ⟨hn2.1, hn2.2.1, hn2.2.2.1, hn2.2.2.2.1, fun p' k' h' q1 q2 q3 => ?_⟩
        rw [ma_at, if_pos rfl]
        split
        · rename_i e
          obtain ⟨rfl, rfl, rfl⟩ : p' = p ∧ k' = night ∧ h' = heard := by omega
          rw [hv, hB]
          exact Or.inr rfl
        · exact hn2.2.2.2.2 p' k' h' q1 q2 q3
      first
        | exact k53 2 (by rw [c_45]; rfl)
        | exact k53 1 (by rw [c_45]; rfl)
end Nights
