/-! THE MODEL'S WINTERS -/
/-- a night of a winter: the draw, those who have lit one, how many were lit, who lit it -/
def winFog (K : KR) (s : Nat) : Bool := decide (zDraw s % 10 < tNat (K 254))
def winCrew (K : KR) (n k u s : Nat) : Option Nat := zNext (zCrew (zWorth K n 0 0 k u (winFog K s)) (zNeed (winFog K s))) 0
def oNat (o : Option Nat) : Nat := match o with
  | none => 0
  | some c => c
def winStep (K : KR) (n k : Nat) (S : Nat × Nat × Nat × (Nat → Int32)) : Nat × Nat × Nat × (Nat → Int32) := (zDraw S.1, S.2.1 ||| oNat (winCrew K n k S.2.1 S.1), S.2.2.1 + (if winCrew K n k S.2.1 S.1 = none then 0 else 1), upd S.2.2.2 k (nI (oNat (winCrew K n k S.2.1 S.1))))
def winRun (K : KR) (n : Nat) (S : Nat × Nat × Nat × (Nat → Int32)) : Nat → Nat × Nat × Nat × (Nat → Int32)
  | 0 => S
  | k + 1 => winStep K n k (winRun K n S k)
def oWinter (M : MM) (n : Nat) (seed many : Int32) : Int32 × MM := if zIn seed 0 1000000 ∧ zIn many 1 60 then (nI (winRun (M.2.2.1 2) n (tNat seed, 0, 0, M.2.2.1 49) (tNat many)).2.2.1, sGood (mar (ms M 50 many) 49 (winRun (M.2.2.1 2) n (tNat seed, 0, 0, M.2.2.1 49) (tNat many)).2.2.2)) else sNo M 1
theorem nOk_49 {K : KR} {n a h k : Nat} {v : Int32} {M : MM} (hn : nOk K n a h M) : nOk K n a h (ma M 49 k v) := ⟨hn.1, hn.2.1, hn.2.2.1, hn.2.2.2.1, hn.2.2.2.2⟩
abbrev mW (M M' : MM) : Prop := mX [8, 22, 23, 24, 34, 35, 51] [25, 29, 30, 31, 32, 33] M M'
section Winter2
variable {E : JE} {L : ML} {ph : HP}
theorem c_laysOfK {M : MM} {K : KR} (e : M.2.2.1 2 = K) {b n hushed : Nat} (hK : KOk K b n) (hN : nOk K n 0 hushed M) (hh : hushed < 1024) {night used : Nat} (hni : night < 61) (hu : used < 1024) (fog : Bool) : MC E fX6_laysWorthsOf L M ph [.int (nI night), .int (nI used), .int (bI fog)] (rV fun M' => nOk K n 0 hushed M' ∧ (∀ p, p < 10 → M'.2.2.1 32 p = nI (zWorth K n 0 hushed night used fog p)) ∧ mX [8, 22, 23, 24] [25, 31, 32] M M') := by
  subst e
  exact c_X6_laysWorthsOf hK hN hh hni hu fog
theorem winRun_ok {K : KR} {n : Nat} {S : Nat × Nat × Nat × (Nat → Int32)} (h1 : S.1 ≤ 1000003) (h2 : S.2.1 < 1024) : ∀ k, (winRun K n S k).1 ≤ 1000003 ∧ (winRun K n S k).2.1 < 1024
  | 0 => ⟨h1, h2⟩
  | k + 1 => by
    obtain ⟨q1, q2⟩ := winRun_ok h1 h2 k
    refine ⟨Nat.le_of_lt (Nat.mod_lt _ (by omega)), or_lt q2 ?_⟩
    cases e : winCrew K n k (winRun K n S k).2.1 (winRun K n S k).1 with
    | none => exact (by decide : 0 < 1024)
    | some c => exact (zNext_some e).2.1
theorem c_X6_winter {M : MM} {K : KR} (e : M.2.2.1 2 = K) {b n : Nat} (hK : KOk K b n) (seed many : Int32) : MC E fX6_winter L M ph [.int seed, .int many] (rI fun r M' => r = (oWinter M n seed many).1 ∧ mW (oWinter M n seed many).2 M') := by
  have h10 := hK.1.1
  have hfg : K 254 = nI (tNat (K 254)) ∧ tNat (K 254) ≤ 10 := kn_of hK.2.2.2.2.2.1 (by decide)
  refine Ct.of [some (.ref (L.1 52)), some (.int seed), some (.int many), none, none, none, none, none] rfl (Nat.le_of_ble_eq_true rfl) (show plainName RX6 = true by decide +kernel) rfl ?_
  refine G.iload_n1 dX6_winter_0 ?_
  refine G.iconst (v := nI 0) dX6_winter_1 (by decide) ?_
  refine G.ldc q2024 dX6_winter_2 ?_
  refine G.topi (nI 1000000) (by decide) ?_
  refine G.scall (f' := fX6_lies) q1912 ck_X6_lies (c_X6_lies E _ _ _) dX6_winter_4 (sI.k fun r_4 h_4 => ?_)
  replace h_4 := h_4.symm; subst h_4
  refine G.ifb_eq (tgt := 20) dX6_winter_7 (by decide) (fun c_7 => ?_) (fun c_7 => ?_)
  · refine G.aload_n0 dX6_winter_20 ?_
    refine G.iconst (v := -1) dX6_winter_21 (by decide) ?_
    refine G.mcall (f' := fX6_refuses) q1915 ck_X6_refuses (c_X6_refuses E L M ph (k := 1) (by decide)) dX6_winter_22 (rI.k fun r_22 M_22 h_22 => ?_)
    obtain ⟨e_22, h_22⟩ := h_22; replace e_22 := e_22.symm; replace h_22 := h_22.symm; subst e_22; subst h_22
    refine G.ireturn dX6_winter_25 ?_
    first
    | exact ⟨_, rfl, _, rfl, by rw [show oWinter M n seed many = sNo M 1 from if_neg (fun z => of_decide_eq_false c_7 z.1)]; rfl, by rw [show oWinter M n seed many = sNo M 1 from if_neg (fun z => of_decide_eq_false c_7 z.1)]; exact mX.rf⟩
    | exact ⟨_, rfl, _, rfl, by rw [show oWinter M n seed many = sNo M 1 from if_neg (fun z => of_decide_eq_false c_17 z.2)]; rfl, by rw [show oWinter M n seed many = sNo M 1 from if_neg (fun z => of_decide_eq_false c_17 z.2)]; exact mX.rf⟩
  · refine G.iload_n2 dX6_winter_10 ?_
    refine G.iconst (v := nI 1) dX6_winter_11 (by decide) ?_
    refine G.bipush (v := nI 60) dX6_winter_12 (by decide) ?_
    refine G.scall (f' := fX6_lies) q1912 ck_X6_lies (c_X6_lies E _ _ _) dX6_winter_14 (sI.k fun r_14 h_14 => ?_)
    replace h_14 := h_14.symm; subst h_14
    refine G.ifb_ne (tgt := 26) dX6_winter_17 (by decide) (fun c_17 => ?_) (fun c_17 => ?_)
    · have qa := of_decide_eq_true c_7
      have qb := of_decide_eq_true c_17
      obtain ⟨s, hs, rfl⟩ := zIn_of qa (by decide)
      obtain ⟨w, hw, rfl⟩ := zIn_of (k := many) (b := 60) ⟨by have := qb.1; rw [t_nI (by omega)] at this ⊢; omega, qb.2⟩ (by decide)
      have ho : oWinter M n (nI s) (nI w) = (nI (winRun K n (s, 0, 0, M.2.2.1 49) w).2.2.1, sGood (mar (ms M 50 (nI w)) 49 (winRun K n (s, 0, 0, M.2.2.1 49) w).2.2.2)) := by
        unfold oWinter
        rw [if_pos ⟨qa, qb⟩, tNat_nI (by omega), tNat_nI (by omega), e]
      rw [ho]
      refine G.aload_n0 dX6_winter_26 ?_
      refine G.mcall (f' := fX6_looks) q2244 ck_X6_looks (c_looksK e hK) dX6_winter_27 (rV.k fun M_27 h_27 => ?_)
      have g1 := h_27.1
      have g3 := h_27.2.2.1
      have g4 := h_27.2.2.2
      clear h_27
      refine G.aload_n0 dX6_winter_30 ?_
      refine G.iload_n1 dX6_winter_31 ?_
      refine G.mputi 51 fp_X6_448 dX6_winter_32 ?_
      refine G.aload_n0 dX6_winter_35 ?_
      refine G.iload_n2 dX6_winter_36 ?_
      refine G.mputi 50 fp_X6_455 dX6_winter_37 ?_
      refine G.iconst (v := nI 0) dX6_winter_40 (by decide) ?_
      refine G.istore_n3 dX6_winter_41 ?_
      refine G.iconst (v := nI 0) dX6_winter_42 (by decide) ?_
      refine G.istore4 dX6_winter_43 ?_
      refine G.iconst (v := nI 0) dX6_winter_45 (by decide) ?_
      refine G.istore5 dX6_winter_46 ?_
      have loop : ∀ d k M2 a6 a7, k + d = w → M2.2.2.1 2 = K → nOk K n 0 0 M2 → M2.1 51 = nI (winRun K n (s, 0, 0, M.2.2.1 49) k).1 → mW (mar (ms M 50 (nI w)) 49 (winRun K n (s, 0, 0, M.2.2.1 49) k).2.2.2) M2 → G E fX6_winter (mFin E fX6_winter L ph (rI fun r M' => r = nI (winRun K n (s, 0, 0, M.2.2.1 49) w).2.2.1 ∧ mW (sGood (mar (ms M 50 (nI w)) 49 (winRun K n (s, 0, 0, M.2.2.1 49) w).2.2.2)) M')) 48 [some (.ref (L.1 52)), some (.int (nI s)), some (.int (nI w)), some (.int (nI (winRun K n (s, 0, 0, M.2.2.1 49) k).2.1)), some (.int (nI (winRun K n (s, 0, 0, M.2.2.1 49) k).2.2.1)), some (.int (nI k)), a6, a7] [] (movl L M2 ph) 0 0 := by
        intro d
        induction d with
        | zero =>
          intro k M2 a6 a7 hk e2 hn2 h51 hx2
          obtain rfl : k = w := by omega
          refine G.iload5 dX6_winter_48 ?_
          refine G.iload_n2 dX6_winter_50 ?_
          refine G.icmp_ge (tgt := 150) dX6_winter_51 (by decide) (fun c_51 => ?_) (fun c_51 => ?_)
          · refine G.aload_n0 dX6_winter_150 ?_
            refine G.iload4 dX6_winter_151 ?_
            refine G.mcall (f' := fX6_good) q1919 ck_X6_good (c_X6_good E L _ ph _) dX6_winter_153 (rI.k fun r_153 M_153 h_153 => ?_)
            obtain ⟨e_153, h_153⟩ := h_153; replace e_153 := e_153.symm; replace h_153 := h_153.symm; subst e_153; subst h_153
            refine G.ireturn dX6_winter_156 ?_
            exact ⟨_, rfl, _, rfl, rfl, cms hx2⟩
          · exact absurd (nI_leI (by omega) (by omega) |>.mpr (by omega)) c_51
        | succ d ih =>
          intro k M2 a6 a7 hk e2 hn2 h51 hx2
          have hgo := fun M2 a6 a7 => ih (k + 1) M2 a6 a7 (by omega)
          clear ih
          obtain ⟨r1, r2⟩ := winRun_ok (K := K) (n := n) (S := (s, 0, 0, M.2.2.1 49)) (by show s ≤ _; omega) (by show 0 < _; omega) k
          rw [show winRun K n (s, 0, 0, M.2.2.1 49) (k + 1) = winStep K n k (winRun K n (s, 0, 0, M.2.2.1 49) k) from rfl] at hgo
          generalize hR : nI (winRun K n (s, 0, 0, M.2.2.1 49) w).2.2.1 = RR at *
          generalize hR2 : sGood (mar (ms M 50 (nI w)) 49 (winRun K n (s, 0, 0, M.2.2.1 49) w).2.2.2) = RM at *
          generalize winRun K n (s, 0, 0, M.2.2.1 49) k = S at *
          obtain ⟨S1, S2, S3, S4⟩ := S
          dsimp only at r1 r2 h51 hx2 ⊢
          have hw2 : winStep K n k (S1, S2, S3, S4) = (zDraw S1, S2 ||| oNat (winCrew K n k S2 S1), S3 + (if winCrew K n k S2 S1 = none then 0 else 1), upd S4 k (nI (oNat (winCrew K n k S2 S1)))) := rfl
          rw [hw2] at hgo
          dsimp only at hgo
          have hcl : ∀ j, winCrew K n k S2 S1 = some j → j < 1024 := fun j q => (zNext_some q).2.1
          have k97 : ∀ (o : Option Nat) (M5 : MM) (a6 : Int32) (a7 : Option Value), winCrew K n k S2 S1 = o → M5.2.2.1 2 = K → nOk K n 0 0 M5 → M5.1 51 = nI (zDraw S1) → mW (mar (ms M 50 (nI w)) 49 S4) M5 → G E fX6_winter (mFin E fX6_winter L ph (rI fun r M' => r = RR ∧ mW RM M')) 97 [some (.ref (L.1 52)), some (.int (nI s)), some (.int (nI w)), some (.int (nI S2)), some (.int (nI S3)), some (.int (nI k)), some (.int a6), a7] [.int (oI o)] (movl L M5 ph) 0 0 := by
            intro o M5 a6 a7 ho5 e5 hn5 h515 hx5
            rw [ho5] at hgo hcl
            have hfin : ∀ v, v = nI (oNat o) → mW (mar (ms M 50 (nI w)) 49 (upd S4 k (nI (oNat o)))) (ma M5 49 k v) := by
              intro v hv
              have := cma (k := 49) (j := k) (v := v) hx5
              rw [ma_mar, hv] at this
              rw [hv]
              exact this
            cases o with
            | none =>
              refine G.istore7 dX6_winter_97 ?_
              refine G.aload_n0 dX6_winter_99 ?_
              refine G.mgeta 49 fl_X6_103 dX6_winter_100 ?_
              refine G.iload5 dX6_winter_103 ?_
              refine G.iload7 dX6_winter_105 ?_
              refine G.iconst (v := -1) dX6_winter_107 (by decide) ?_
              refine G.icmp_ne (tgt := 115) dX6_winter_108 (by decide) (fun c_108 => absurd c_108 (by exact fun z => z rfl)) (fun c_108 => ?_)
              refine G.iconst (v := nI 0) dX6_winter_111 (by decide) ?_
              refine G.goto (tgt := 117) dX6_winter_112 (by decide) ?_
              refine G.miast (n := 60) 49 k dX6_winter_117 rfl (by omega) ?_
              refine G.iload_n3 dX6_winter_118 ?_
              refine G.aload_n0 dX6_winter_119 ?_
              refine G.mgeta 49 fl_X6_103 dX6_winter_120 ?_
              refine G.iload5 dX6_winter_123 ?_
              refine G.miald (n := 60) 49 k dX6_winter_125 rfl (by omega) ?_
              rw [ma_at, if_pos rfl, if_pos rfl]
              refine G.ior dX6_winter_126 ?_
              rw [b_or (a := S2) (b := 0) (by omega) (by omega)]
              refine G.istore_n3 dX6_winter_127 ?_
              refine G.iload4 dX6_winter_128 ?_
              refine G.iload7 dX6_winter_130 ?_
              refine G.iconst (v := -1) dX6_winter_132 (by decide) ?_
              refine G.icmp_ne (tgt := 140) dX6_winter_133 (by decide) (fun c_133 => absurd c_133 (by exact fun z => z rfl)) (fun c_133 => ?_)
              refine G.iconst (v := nI 0) dX6_winter_136 (by decide) ?_
              refine G.goto (tgt := 141) dX6_winter_137 (by decide) ?_
              first | with_reducible refine G.iaddn dX6_winter_141 ?_ | refine G.iadd dX6_winter_141 ?_
              refine G.istore4 dX6_winter_142 ?_
              refine G.iinc5 dX6_winter_144 ?_
              try rw [show ∀ a : Nat, nI a + Int32.ofInt 1 = nI (a + 1) from fun a => nI_add a 1]
              refine G.goto (tgt := 48) dX6_winter_147 (by decide) ?_
              exact hgo _ _ _ e5 (nOk_49 hn5) h515 (hfin _ rfl)
            | some c =>
              have hc := hcl c rfl
              have hne : ¬ nI c = -1 := fun z => by rw [i_eq, t_nI (by omega), t_m1] at z; omega
              refine G.istore7 dX6_winter_97 ?_
              refine G.aload_n0 dX6_winter_99 ?_
              refine G.mgeta 49 fl_X6_103 dX6_winter_100 ?_
              refine G.iload5 dX6_winter_103 ?_
              refine G.iload7 dX6_winter_105 ?_
              refine G.iconst (v := -1) dX6_winter_107 (by decide) ?_
              refine G.icmp_ne (tgt := 115) dX6_winter_108 (by decide) (fun c_108 => ?_) (fun c_108 => absurd c_108 (by exact hne))
              refine G.iload7 dX6_winter_115 ?_
              refine G.miast (n := 60) 49 k dX6_winter_117 rfl (by omega) ?_
              refine G.iload_n3 dX6_winter_118 ?_
              refine G.aload_n0 dX6_winter_119 ?_
              refine G.mgeta 49 fl_X6_103 dX6_winter_120 ?_
              refine G.iload5 dX6_winter_123 ?_
              refine G.miald (n := 60) 49 k dX6_winter_125 rfl (by omega) ?_
              rw [ma_at, if_pos rfl, if_pos rfl, show oI (some c) = nI c from rfl]
              refine G.ior dX6_winter_126 ?_
              rw [b_or (a := S2) (b := c) (by omega) (by omega)]
              refine G.istore_n3 dX6_winter_127 ?_
              refine G.iload4 dX6_winter_128 ?_
              refine G.iload7 dX6_winter_130 ?_
              refine G.iconst (v := -1) dX6_winter_132 (by decide) ?_
              refine G.icmp_ne (tgt := 140) dX6_winter_133 (by decide) (fun c_133 => ?_) (fun c_133 => absurd c_133 (by exact hne))
              refine G.iconst (v := nI 1) dX6_winter_140 (by decide) ?_
              first | with_reducible refine G.iaddn dX6_winter_141 ?_ | refine G.iadd dX6_winter_141 ?_
              refine G.istore4 dX6_winter_142 ?_
              refine G.iinc5 dX6_winter_144 ?_
              try rw [show ∀ a : Nat, nI a + Int32.ofInt 1 = nI (a + 1) from fun a => nI_add a 1]
              refine G.goto (tgt := 48) dX6_winter_147 (by decide) ?_
              exact hgo _ _ _ e5 (nOk_49 hn5) h515 (hfin _ rfl)
          have k76 : ∀ (fog : Bool) (M5 : MM), fog = winFog K S1 → M5.2.2.1 2 = K → nOk K n 0 0 M5 → M5.1 51 = nI (zDraw S1) → mW (mar (ms M 50 (nI w)) 49 S4) M5 → G E fX6_winter (mFin E fX6_winter L ph (rI fun r M' => r = RR ∧ mW RM M')) 76 [some (.ref (L.1 52)), some (.int (nI s)), some (.int (nI w)), some (.int (nI S2)), some (.int (nI S3)), some (.int (nI k)), a6, a7] [.int (bI fog)] (movl L M5 ph) 0 0 := by
            intro fog M5 hfog e5 hn5 h515 hx5
            refine G.istore6 dX6_winter_76 ?_
            refine G.aload_n0 dX6_winter_78 ?_
            refine G.iload5 dX6_winter_79 ?_
            refine G.iload_n3 dX6_winter_81 ?_
            refine G.iload6 dX6_winter_82 ?_
            refine G.mcall (f' := fX6_laysWorthsOf) q2374 ck_X6_laysWorthsOf (c_laysOfK e5 hK hn5 (by decide) (night := k) (used := S2) (by omega) r2 fog) dX6_winter_84 (rV.k fun M_84 h_84 => ?_)
            have n84 := h_84.1
            have w84 := h_84.2.1
            have x84 := h_84.2.2
            clear h_84
            refine G.aload_n0 dX6_winter_87 ?_
            refine G.iconst (v := nI 0) dX6_winter_88 (by decide) ?_
            refine G.iload6 dX6_winter_89 ?_
            refine G.scall (f' := fX6_needOn) q2218 ck_X6_needOn (c_X6_needOn E fog) dX6_winter_91 (sI.k fun r_91 h_91 => ?_)
            replace h_91 := h_91.symm; subst h_91
            refine G.mcall (f' := fX6_crewBehind) q2272 ck_X6_crewBehind (c_X6_crewBehind (M := M_84) zWorth_le w84 (c := 0) (by omega) (need := zNeed fog) (by unfold zNeed; split <;> omega)) dX6_winter_94 (rI.k fun r_94 M_94 h_94 => ?_)
            have r94 := h_94.1
            have m94 := h_94.2.symm
            clear h_94
            subst m94
            rw [show r_94 = oI (winCrew K n k S2 S1) from by rw [r94, hfog]; rfl]
            exact k97 _ M_84 _ _ rfl ((x84.2.2.1 2 (by decide)).trans e5) n84 ((x84.1 51 (by decide)).trans h515) (hx5.tr x84 (by simp) (by simp))
          refine G.iload5 dX6_winter_48 ?_
          refine G.iload_n2 dX6_winter_50 ?_
          refine G.icmp_ge (tgt := 150) dX6_winter_51 (by decide) (fun c_51 => ?_) (fun c_51 => ?_)
          · exact absurd ((nI_leI (by omega) (by omega)).mp c_51) (by omega)
          · refine G.aload_n0 dX6_winter_54 ?_
            refine G.bipush (v := nI 10) dX6_winter_55 (by decide) ?_
            refine G.mcall (f' := fX6_draws) q2367 ck_X6_draws (c_X6_draws (M := M2) (s := S1) r1 h51 (k := 10) (by omega) (by omega)) dX6_winter_57 (rI.k fun r_57 M_57 h_57 => ?_)
            obtain ⟨e_57, h_57⟩ := h_57; replace e_57 := e_57.symm; replace h_57 := h_57.symm; subst e_57; subst h_57
            refine G.aload_n0 dX6_winter_60 ?_
            refine G.mgeta 2 fl_X6_24 dX6_winter_61 ?_
            refine G.sipush (v := nI 254) dX6_winter_64 (by decide) ?_
            refine G.miald (n := 5866) 2 _ dX6_winter_67 rfl (by omega) ?_
            rw [show (ms M2 51 (nI (zDraw S1))).2.2.1 2 254 = nI (tNat (K 254)) from (congrFun e2 254).trans hfg.1]
            refine G.icmp_ge (tgt := 75) dX6_winter_68 (by decide) (fun c_68 => ?_) (fun c_68 => ?_)
            · have n_68 : tNat (K 254) ≤ zDraw S1 % 10 := (nI_leI (a := tNat (K 254)) (b := zDraw S1 % 10) (by omega) (by omega)).mp c_68
              refine G.iconst (v := nI 0) dX6_winter_75 (by decide) ?_
              first
              | exact k76 true (ms M2 51 (nI (zDraw S1))) (decide_eq_true n_68).symm e2 hn2 rfl (hx2.ms (by decide))
              | exact k76 false (ms M2 51 (nI (zDraw S1))) (decide_eq_false (Nat.not_lt.mpr n_68)).symm e2 hn2 rfl (hx2.ms (by decide))
            · have n_68 : zDraw S1 % 10 < tNat (K 254) := Nat.lt_of_not_le (fun z => c_68 ((nI_leI (a := tNat (K 254)) (b := zDraw S1 % 10) (by omega) (by omega)).mpr z))
              refine G.iconst (v := nI 1) dX6_winter_71 (by decide) ?_
              refine G.goto (tgt := 76) dX6_winter_72 (by decide) ?_
              first
              | exact k76 true (ms M2 51 (nI (zDraw S1))) (decide_eq_true n_68).symm e2 hn2 rfl (hx2.ms (by decide))
              | exact k76 false (ms M2 51 (nI (zDraw S1))) (decide_eq_false (Nat.not_lt.mpr n_68)).symm e2 hn2 rfl (hx2.ms (by decide))
      refine loop w 0 _ _ _ (by omega) g3 g1 rfl ?_
      have hz : mW M (ms M_27 51 (nI s)) := (g4.mono (by simp) (by simp)).ms (by decide)
      show mW (mar (ms M 50 (nI w)) 49 ((ms M 50 (nI w)).2.2.1 49)) _
      rw [mar_id]
      exact cms hz
    · refine G.aload_n0 dX6_winter_20 ?_
      refine G.iconst (v := -1) dX6_winter_21 (by decide) ?_
      refine G.mcall (f' := fX6_refuses) q1915 ck_X6_refuses (c_X6_refuses E L M ph (k := 1) (by decide)) dX6_winter_22 (rI.k fun r_22 M_22 h_22 => ?_)
      obtain ⟨e_22, h_22⟩ := h_22; replace e_22 := e_22.symm; replace h_22 := h_22.symm; subst e_22; subst h_22
      refine G.ireturn dX6_winter_25 ?_
      first
      | exact ⟨_, rfl, _, rfl, by rw [show oWinter M n seed many = sNo M 1 from if_neg (fun z => of_decide_eq_false c_7 z.1)]; rfl, by rw [show oWinter M n seed many = sNo M 1 from if_neg (fun z => of_decide_eq_false c_7 z.1)]; exact mX.rf⟩
      | exact ⟨_, rfl, _, rfl, by rw [show oWinter M n seed many = sNo M 1 from if_neg (fun z => of_decide_eq_false c_17 z.2)]; rfl, by rw [show oWinter M n seed many = sNo M 1 from if_neg (fun z => of_decide_eq_false c_17 z.2)]; exact mX.rf⟩
end Winter2
