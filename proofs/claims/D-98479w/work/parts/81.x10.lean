/-! LITSTRANGERS: takes, costs, lodges, spoils, is barred -/
def barsOk (cs : List Cl) : Prop := ∀ c ∈ cs, c.1 = 5 → c.2.1 = none
theorem rText_bars {x0 a : Nat} {ph : HP} {cs : List Cl} (h : rText x0 ph a cs) : barsOk cs := by
  obtain ⟨b, n, g, as, -, -, -, -, -, hall⟩ := h
  have key : ∀ (as : List Nat) (cs : List Cl), rAl (rCl x0 ph) as cs → barsOk cs := by
    intro as
    induction as with
    | nil =>
      intro cs h
      cases cs with
      | nil => intro c hc; cases hc
      | cons c cs => exact h.elim
    | cons a as ih =>
      intro cs h
      cases cs with
      | nil => intro c hc; cases hc
      | cons c cs =>
        intro c' hc'
        rcases List.mem_cons.mp hc' with rfl | hc'
        · intro h5
          obtain ⟨hd, sv, tv, told, -, h1, -, h3, -⟩ := h.1
          rcases h3 with ⟨z, -⟩ | ⟨s, b, -, -, z, -⟩
          · exact z
          · omega
        · exact ih cs h.2 c' hc'
  exact key as cs hall
theorem zTells_bars {cs : List Cl} {e : En} (h : barsOk cs) : ∀ w : Int64, (w = 0 ∨ w = 1) → zTells cs 5 e 1 w = if zHas cs e = true then 1 else w := by
  have c1 : zClamp 1 1 = 1 := by decide
  unfold zTells zHas
  induction cs with
  | nil =>
    intro w hw
    rw [List.foldl_nil, List.any_nil, if_neg Bool.false_ne_true]
  | cons c cs ih =>
    intro w hw
    have hb : barsOk cs := fun c' hc' => h c' (List.mem_cons_of_mem _ hc')
    rw [List.foldl_cons, List.any_cons]
    by_cases q : c.1 = 5 ∧ zHolds c.2.2.2 e = true
    · have hn := h c List.mem_cons_self q.1
      have hs : zSays c e = true := by unfold zSays; rw [q.2, hn]; rfl
      rw [if_pos q, hn, hs, decide_eq_true q.1]
      show List.foldl _ (zClamp 1 1) cs = _
      rw [c1, ih hb 1 (Or.inr rfl)]
      simp
    · have hs : (decide (c.1 = 5) && zSays c e) = false := by
        unfold zSays
        by_cases q1 : c.1 = 5
        · have q2 : zHolds c.2.2.2 e = false := by
            cases z : zHolds c.2.2.2 e with
            | false => rfl
            | true => exact absurd ⟨q1, z⟩ q
          rw [q2, Bool.false_and, Bool.and_false]
        · rw [decide_eq_false q1, Bool.false_and]
      rw [if_neg q, hs, Bool.false_or]
      exact ih hb w hw
theorem kBarred_has {K : KR} {p : Nat} {heard day : Int32} {fog : Bool} (h : barsOk (lawCs K)) : kBarred K p heard day fog = zHas (lawCs K) (aEn K (aSets K p heard none day (bI fog))) := by
  unfold kBarred tellsOf
  unfold lawCs at *
  by_cases q : K 258 = -1
  · rw [if_pos q, if_pos q]
    rfl
  · rw [if_neg q, if_neg q]
    rw [if_neg q] at h
    rw [show (nI 1).toInt64 = 1 from rfl, show (nI 0).toInt64 = 0 from rfl, zTells_bars h 0 (Or.inl rfl)]
    cases zHas (bCls false K (tNat (K 258))) (aEn K (aSets K p heard none day (bI fog))) with
    | true => decide
    | false => decide
section Asks
variable {E : JE} {L : XL} {ph : HP} {K : KR} {b n : Nat}
theorem pAsk_far : ∀ k, k ≤ 11 → pAsk k = false := by decide
theorem xCoast_ask {D D' : XD} (h : xCoast L D ph K n) (hx : xX pAsk D D') : xCoast L D' ph K n := xCoast_X h hx pAsk_far
theorem p15_ask : ∀ k, p15 k = true → pAsk k = true := by
  intro k h
  unfold p15 at h
  unfold pAsk
  rw [h]
  rfl
theorem c_X0_takes {D : XD} (hB : xdis L D ph) (hC : xCoast L D ph K n) (hK : KOk K b n) {p : Nat} (hp : p < n) : XC E fX0_takes 0 L D ph [.int (nI p)] (wI fun r D' => r = kTakes K p ∧ xX pAsk D D') := by
  obtain ⟨a1, a2⟩ := hC.1
  obtain ⟨ap, hap, hpp⟩ := a2 p hp
  obtain ⟨r1, r2⟩ := hK.road hp
  refine Ct.of [some (.ref (L.1 0)), some (.int (nI p))] rfl (Nat.le_of_ble_eq_true rfl) (show plainName RX0 = true by decide +kernel) rfl ?_
  refine G.aload_n0 dX0_takes_0 ?_
  refine G.iload_n1 dX0_takes_1 ?_
  refine G.xcall (f' := fX0_askNow) 0 q1241 ck_X0_askNow (c_X0_askNow hB hC hK hp) dX0_takes_2 (wV.k fun D_2 h_2 => ?_)
  obtain ⟨hx, hE⟩ := h_2
  have hB2 := xdis_X hB hx
  have hC2 := xCoast_ask hC hx
  refine G.aload_n0 dX0_takes_5 ?_
  refine G.iconst (v := nI 0) dX0_takes_6 (by decide) ?_
  refine G.aload_n0 dX0_takes_7 ?_
  refine G.xgetf 0 0 1 fl_X0_10 dX0_takes_8 ?_
  refine G.xgetf 1 1 4 fl_X0_92 dX0_takes_11 ?_
  refine G.iload_n1 dX0_takes_14 ?_
  refine G.xcall (f' := fJ2_get) 4 q590 ck_J2_get (c_get 4 (Or.inr (Or.inl rfl)) (xls_X a1 (hx.1 4 rfl).1 (hx.1 4 rfl).2.2.2 hx.2) hp (by rw [(hx.1 5 rfl).2.2.2]; exact hap)) dX0_takes_15 (wA.k fun r_15 D_15 h_15 => ?_)
  obtain ⟨e_15, h_15⟩ := h_15; replace e_15 := e_15.symm; replace h_15 := h_15.symm; subst e_15; subst h_15
  refine G.checkcastS (xbase hB2 hpp rfl) dX0_takes_18 q468 ?_
  refine G.getfield (k := 0) fl_X0_164 (xbase hB2 hpp rfl) rfl dX0_takes_21 ?_
  rw [r1]
  refine G.i2l dX0_takes_24 rfl ?_
  refine G.bipush (v := nI 60) dX0_takes_25 (by decide) ?_
  refine G.xcall (f' := fX0_tells) 0 q1258 ck_X0_tells (c_X0_tells hB2 hC2 hK hE (head := 0) (high := 60) (without := kRoad K p) (by omega) (by omega) (by omega)) dX0_takes_27 (wI.k fun r_27 D_27 h_27 => ?_)
  obtain ⟨rfl, hx3⟩ := h_27
  refine G.ireturn dX0_takes_30 ?_
  exact ⟨_, rfl, _, rfl, rfl, hx.tr hx3 p15_ask⟩
theorem c_X0_costs {D : XD} (hB : xdis L D ph) (hC : xCoast L D ph K n) (hK : KOk K b n) {p : Nat} (hp : p < n) : XC E fX0_costs 0 L D ph [.int (nI p)] (wI fun r D' => r = kCosts K p ∧ xX pAsk D D') := by
  obtain ⟨a1, a2⟩ := hC.1
  obtain ⟨ap, hap, hpp⟩ := a2 p hp
  obtain ⟨r1, r2⟩ := hK.road hp
  refine Ct.of [some (.ref (L.1 0)), some (.int (nI p))] rfl (Nat.le_of_ble_eq_true rfl) (show plainName RX0 = true by decide +kernel) rfl ?_
  refine G.aload_n0 dX0_costs_0 ?_
  refine G.iload_n1 dX0_costs_1 ?_
  refine G.xcall (f' := fX0_askNow) 0 q1241 ck_X0_askNow (c_X0_askNow hB hC hK hp) dX0_costs_2 (wV.k fun D_2 h_2 => ?_)
  obtain ⟨hx, hE⟩ := h_2
  have hB2 := xdis_X hB hx
  have hC2 := xCoast_ask hC hx
  refine G.aload_n0 dX0_costs_5 ?_
  refine G.iconst (v := nI 1) dX0_costs_6 (by decide) ?_
  refine G.aload_n0 dX0_costs_7 ?_
  refine G.xgetf 0 0 1 fl_X0_10 dX0_costs_8 ?_
  refine G.xgetf 1 1 4 fl_X0_92 dX0_costs_11 ?_
  refine G.iload_n1 dX0_costs_14 ?_
  refine G.xcall (f' := fJ2_get) 4 q590 ck_J2_get (c_get 4 (Or.inr (Or.inl rfl)) (xls_X a1 (hx.1 4 rfl).1 (hx.1 4 rfl).2.2.2 hx.2) hp (by rw [(hx.1 5 rfl).2.2.2]; exact hap)) dX0_costs_15 (wA.k fun r_15 D_15 h_15 => ?_)
  obtain ⟨e_15, h_15⟩ := h_15; replace e_15 := e_15.symm; replace h_15 := h_15.symm; subst e_15; subst h_15
  refine G.checkcastS (xbase hB2 hpp rfl) dX0_costs_18 q468 ?_
  refine G.getfield (k := 0) fl_X0_164 (xbase hB2 hpp rfl) rfl dX0_costs_21 ?_
  rw [r1]
  refine G.i2l dX0_costs_24 rfl ?_
  refine G.sipush (v := nI 999) dX0_costs_25 (by decide) ?_
  refine G.xcall (f' := fX0_tells) 0 q1258 ck_X0_tells (c_X0_tells hB2 hC2 hK hE (head := 1) (high := 999) (without := kRoad K p) (by omega) (by omega) (by omega)) dX0_costs_28 (wI.k fun r_28 D_28 h_28 => ?_)
  obtain ⟨rfl, hx3⟩ := h_28
  refine G.ireturn dX0_costs_31 ?_
  exact ⟨_, rfl, _, rfl, rfl, hx.tr hx3 p15_ask⟩
theorem c_X0_lodges {D : XD} (hB : xdis L D ph) (hC : xCoast L D ph K n) (hK : KOk K b n) {p : Nat} (hp : p < n) : XC E fX0_lodges 0 L D ph [.int (nI p)] (wI fun r D' => r = kLodges K p ∧ xX pAsk D D') := by
  refine Ct.of [some (.ref (L.1 0)), some (.int (nI p))] rfl (Nat.le_of_ble_eq_true rfl) (show plainName RX0 = true by decide +kernel) rfl ?_
  refine G.aload_n0 dX0_lodges_0 ?_
  refine G.iload_n1 dX0_lodges_1 ?_
  refine G.xcall (f' := fX0_askNow) 0 q1241 ck_X0_askNow (c_X0_askNow hB hC hK hp) dX0_lodges_2 (wV.k fun D_2 h_2 => ?_)
  obtain ⟨hx, hE⟩ := h_2
  have hB2 := xdis_X hB hx
  have hC2 := xCoast_ask hC hx
  refine G.aload_n0 dX0_lodges_5 ?_
  refine G.iconst (v := nI 2) dX0_lodges_6 (by decide) ?_
  refine G.lconst (v := 1) dX0_lodges_7 (by decide) ?_
  rw [show (1 : Int64) = (nI 1).toInt64 from rfl]
  refine G.bipush (v := nI 99) dX0_lodges_8 (by decide) ?_
  refine G.xcall (f' := fX0_tells) 0 q1258 ck_X0_tells (c_X0_tells hB2 hC2 hK hE (head := 2) (high := 99) (without := 1) (by omega) (by omega) (by omega)) dX0_lodges_10 (wI.k fun r_10 D_10 h_10 => ?_)
  obtain ⟨rfl, hx3⟩ := h_10
  refine G.ireturn dX0_lodges_13 ?_
  exact ⟨_, rfl, _, rfl, rfl, hx.tr hx3 p15_ask⟩
theorem c_X0_spoils {D : XD} (hB : xdis L D ph) (hC : xCoast L D ph K n) (hK : KOk K b n) {p q : Nat} (hp : p < n) (hq : q < n) : XC E fX0_spoils 0 L D ph [.int (nI p), .int (nI q)] (wI fun r D' => r = kSpoils K p q ∧ xX pAsk D D') := by
  refine Ct.of [some (.ref (L.1 0)), some (.int (nI p)), some (.int (nI q))] rfl (Nat.le_of_ble_eq_true rfl) (show plainName RX0 = true by decide +kernel) rfl ?_
  refine G.aload_n0 dX0_spoils_0 ?_
  refine G.iload_n1 dX0_spoils_1 ?_
  refine G.iconst (v := -1) dX0_spoils_2 (by decide) ?_
  refine G.iload_n2 dX0_spoils_3 ?_
  refine G.iconst (v := -1) dX0_spoils_4 (by decide) ?_
  refine G.iconst (v := -1) dX0_spoils_5 (by decide) ?_
  refine G.xcall (f' := fX0_ask) 0 q1253 ck_X0_ask (c_X0_ask hB hC hK.1.1 hp (-1) (-1) (-1) (some q) (fun q2 z => by cases z; exact hq)) dX0_spoils_6 (wV.k fun D_6 h_6 => ?_)
  obtain ⟨hx, hE⟩ := h_6
  have hB2 := xdis_X hB hx
  have hC2 := xCoast_ask hC hx
  refine G.aload_n0 dX0_spoils_9 ?_
  refine G.iconst (v := nI 3) dX0_spoils_10 (by decide) ?_
  refine G.lconst (v := 1) dX0_spoils_11 (by decide) ?_
  rw [show (1 : Int64) = (nI 1).toInt64 from rfl]
  refine G.iconst (v := nI 2) dX0_spoils_12 (by decide) ?_
  refine G.xcall (f' := fX0_tells) 0 q1258 ck_X0_tells (c_X0_tells hB2 hC2 hK (envA_of hE) (head := 3) (high := 2) (without := 1) (by omega) (by omega) (by omega)) dX0_spoils_13 (wI.k fun r_13 D_13 h_13 => ?_)
  obtain ⟨rfl, hx3⟩ := h_13
  refine G.ireturn dX0_spoils_16 ?_
  exact ⟨_, rfl, _, rfl, rfl, hx.tr hx3 p15_ask⟩
theorem c_X0_isBarred {D : XD} (hB : xdis L D ph) (hC : xCoast L D ph K n) (hK : KOk K b n) {p : Nat} (hp : p < n) (heard day : Int32) (fog : Bool) : XC E fX0_isBarred 0 L D ph [.int (nI p), .int heard, .int day, .int (bI fog)] (wI fun r D' => r = bI (kBarred K p heard day fog) ∧ xX pAsk D D') := by
  refine Ct.of [some (.ref (L.1 0)), some (.int (nI p)), some (.int heard), some (.int day), some (.int (bI fog))] rfl (Nat.le_of_ble_eq_true rfl) (show plainName RX0 = true by decide +kernel) rfl ?_
  refine G.aload_n0 dX0_isBarred_0 ?_
  refine G.iload_n1 dX0_isBarred_1 ?_
  refine G.iload_n2 dX0_isBarred_2 ?_
  refine G.iload_n3 dX0_isBarred_3 ?_
  refine G.iload4 dX0_isBarred_4 ?_
  refine G.xcall (f' := fX0_askOn) 0 q1249 ck_X0_askOn (c_X0_askOn hB hC hK.1.1 hp heard day fog) dX0_isBarred_6 (wV.k fun D_6 h_6 => ?_)
  obtain ⟨hx, hE⟩ := h_6
  have hB2 := xdis_X hB hx
  have hC2 := xCoast_ask hC hx
  refine G.aload_n0 dX0_isBarred_9 ?_
  refine G.xcall (f' := fX0_law1) 0 q1262 ck_X0_law1 (c_X0_law1 hB2 hC2 hK) dX0_isBarred_10 (wA.k fun r_10 D_10 h_10 => ?_)
  obtain ⟨hT, h10⟩ := h_10
  replace h10 := h10.symm
  subst h10
  obtain ⟨tb, tn, tg, tas, hT1, -⟩ := id hT
  refine G.iconst (v := nI 4) dX0_isBarred_13 (by decide) ?_
  refine G.aload_n0 dX0_isBarred_14 ?_
  refine G.xgetf 0 3 15 fl_X0_30 dX0_isBarred_15 ?_
  refine G.callV (f' := fX4_has) q1333 ck_X4_has (c_Text_has hB2 hE hT) (xbase hB2 hT1 rfl) dX0_isBarred_18 jno (pI.k fun r_18 H_18 h_18 => ?_)
  obtain ⟨D2, rfl, hx2, rfl⟩ := h_18
  refine G.ireturn dX0_isBarred_21 ?_ (hn := by first | rfl | exact bI_nar _)
  exact ⟨_, rfl, _, rfl, congrArg bI (kBarred_has (rText_bars hT)).symm, hx.tr hx2 p15_ask⟩
end Asks
