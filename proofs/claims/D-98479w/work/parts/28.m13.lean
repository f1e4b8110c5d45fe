/-! THE MODEL'S ACTS AS CALLS; HARM, COUNTS -/
def oGoodOr (o : Int32 × MM) : Int32 × MM := if 0 ≤ o.1 then (o.1, sGood o.2) else sNo o.2 (tNat (-o.1))
theorem gA {o : Int32 × MM} {M' : MM} (h : mA o.2 M') : (oGoodOr (o.1, M')).1 = (oGoodOr o).1 ∧ mA (oGoodOr o).2 (oGoodOr (o.1, M')).2 := by
  unfold oGoodOr
  dsimp only
  split
  · exact ⟨rfl, cms h⟩
  · refine ⟨rfl, ?_⟩
    unfold sNo sRef
    dsimp only
    rw [h.2.2.1 1 (by decide)]
    exact cma (cms h)
theorem kWorthN_r {K : KR} {b n c : Nat} (h : KOk K b n) : ∀ p, p ≤ n → ∃ v, v ≤ 2 * p ∧ kWorthN K c p = nI v
  | 0, _ => ⟨0, by omega, rfl⟩
  | p + 1, hp => by
    obtain ⟨v, hv, e⟩ := kWorthN_r (c := c) h p (by omega)
    unfold kWorthN
    split
    · have hw := h.w (show p < n from by omega)
      obtain ⟨w, hw1, hw2⟩ := t_of (n := 3) (p := wOf K p) hw.1 (by omega)
      rw [e, hw2, nI_add]
      exact ⟨_, by omega, rfl⟩
    · exact ⟨v, by omega, e⟩
theorem nI_nn {x : Int32} (h : ∃ v : Nat, v < 2147483648 ∧ x = nI v) : 0 ≤ x := by
  obtain ⟨v, hv, rfl⟩ := h
  rw [i_le, t_nI hv, t_0]
  omega
section ActCalls
variable {E : JE} {L : ML} {ph : HP}
theorem c_X6_send {M : MM} {b n u : Nat} (hK : KOk (M.2.2.1 2) b n) (hu : u ≤ 16) (hM : M.1 28 = nI u) (p : Int32) : MC E fX6_send L M ph [.int p] (rI fun r M' => r = (oGoodOr (oSendK M n u p)).1 ∧ mA (oGoodOr (oSendK M n u p)).2 M') := by
  have hv : 0 ≤ (oSendK M n u p).1 ∨ ∃ k, k < 7 ∧ (oSendK M n u p).1 = -nI k := by
    unfold oSendK
    split
    · split
      · exact Or.inl (nI_nn ⟨_, Nat.lt_of_le_of_lt (tellsOf_r (K := M.2.2.1 2) (head := 2) (a := aNow (M.2.2.1 2) (tNat p)) (high := 999) (without := kRoad (M.2.2.1 2) (tNat p)) (by
          rename_i q _
          obtain ⟨k, hk, rfl⟩ := oP q hK.1.1
          have h10 := hK.1.1
          rw [tNat_nI (by omega)]
          have := hK.road hk
          omega) (by omega)).2 (by omega), (tellsOf_r (K := M.2.2.1 2) (head := 2) (a := aNow (M.2.2.1 2) (tNat p)) (high := 999) (without := kRoad (M.2.2.1 2) (tNat p)) (by
          rename_i q _
          obtain ⟨k, hk, rfl⟩ := oP q hK.1.1
          have h10 := hK.1.1
          rw [tNat_nI (by omega)]
          have := hK.road hk
          omega) (by omega)).1⟩)
      · exact Or.inr ⟨3, by omega, rfl⟩
    · exact Or.inr ⟨2, by omega, rfl⟩
  refine Ct.of [some (.ref (L.1 52)), some (.int p)] rfl (Nat.le_of_ble_eq_true rfl) (show plainName RX6 = true by decide +kernel) rfl ?_
  refine G.aload_n0 dX6_send_0 ?_
  refine G.aload_n0 dX6_send_1 ?_
  refine G.iload_n1 dX6_send_2 ?_
  refine G.mcall (f' := fX6_sendsKept) q2191 ck_X6_sendsKept (c_X6_sendsKept hK hu hM p) dX6_send_3 (rI.k fun r_3 M_3 h_3 => ?_)
  obtain ⟨rfl, g1⟩ := h_3
  refine G.mcall (f' := fX6_goodOr) q2199 ck_X6_goodOr (c_X6_goodOr (M := M_3) _ hv) dX6_send_6 (rI.k fun r_6 M_6 h_6 => ?_)
  have g2 := gA g1
  have e1 : r_6 = (oGoodOr ((oSendK M n u p).1, M_3)).1 := congrArg Prod.fst h_6
  have e2 : M_6 = (oGoodOr ((oSendK M n u p).1, M_3)).2 := congrArg Prod.snd h_6
  refine G.ireturn dX6_send_9 ?_
  exact ⟨_, rfl, _, rfl, e1.trans g2.1, by rw [e2]; exact g2.2⟩
theorem c_X6_light {M : MM} {b n u : Nat} (hK : KOk (M.2.2.1 2) b n) (hu : u ≤ 16) (hM : M.1 28 = nI u) (p : Int32) : MC E fX6_light L M ph [.int p] (rI fun r M' => r = (oGoodOr (oLightK M n u p)).1 ∧ mA (oGoodOr (oLightK M n u p)).2 M') := by
  have h10 := hK.1.1
  have hv : 0 ≤ (oLightK M n u p).1 ∨ ∃ k, k < 7 ∧ (oLightK M n u p).1 = -nI k := by
    unfold oLightK
    split
    · split
      · exact Or.inr ⟨2, by omega, rfl⟩
      · split
        · obtain ⟨v, hv, e⟩ := kWorthN_r (c := tNat p) hK n (Nat.le_refl n)
          exact Or.inl (nI_nn ⟨v, by omega, e⟩)
        · exact Or.inr ⟨3, by omega, rfl⟩
    · exact Or.inr ⟨1, by omega, rfl⟩
  refine Ct.of [some (.ref (L.1 52)), some (.int p)] rfl (Nat.le_of_ble_eq_true rfl) (show plainName RX6 = true by decide +kernel) rfl ?_
  refine G.aload_n0 dX6_light_0 ?_
  refine G.aload_n0 dX6_light_1 ?_
  refine G.iload_n1 dX6_light_2 ?_
  refine G.mcall (f' := fX6_lightsKept) q2207 ck_X6_lightsKept (c_X6_lightsKept hK hu hM p) dX6_light_3 (rI.k fun r_3 M_3 h_3 => ?_)
  obtain ⟨rfl, g1⟩ := h_3
  refine G.mcall (f' := fX6_goodOr) q2199 ck_X6_goodOr (c_X6_goodOr (M := M_3) _ hv) dX6_light_6 (rI.k fun r_6 M_6 h_6 => ?_)
  have g2 := gA g1
  have e1 : r_6 = (oGoodOr ((oLightK M n u p).1, M_3)).1 := congrArg Prod.fst h_6
  have e2 : M_6 = (oGoodOr ((oLightK M n u p).1, M_3)).2 := congrArg Prod.snd h_6
  refine G.ireturn dX6_light_9 ?_
  exact ⟨_, rfl, _, rfl, e1.trans g2.1, by rw [e2]; exact g2.2⟩
theorem KOk.darkA {K : KR} {b n : Nat} (hK : KOk K b n) : KOk (upd K 31 (K 31 + nI 1)) (b + 1) n := by
  have h10 := hK.1.1
  refine hK.mov (fun i hi => pk_un (by omega)) (fun q hq => ?_) ?_
  · have := hK.movs hq
    unfold kMov at *
    rw [pk_un (by omega), pk_un (by omega), pk_un (by omega)]
    exact this
  · obtain ⟨⟨a, ha, ea⟩, ⟨a2, ha2, ea2⟩, ⟨a3, ha3, ea3⟩, a4⟩ := hK.2.2.1
    unfold kNum
    rw [pk_us, pk_un (by omega), pk_un (by omega), pk_un (by omega), ea2, nI_add]
    exact ⟨⟨a, by omega, ea⟩, ⟨_, by omega, rfl⟩, ⟨a3, by omega, ea3⟩, a4⟩
theorem KOk.day_lt {K : KR} {b n : Nat} (hK : KOk K b n) (h : ¬ K 33 = nI 999) : kDay K < 999 := by
  have hd := hK.day
  rcases Nat.lt_or_ge (kDay K) 999 with z | z
  · exact z
  · exact absurd (by rw [hd.1, show kDay K = 999 from by omega]) h
theorem KOk.dark {K : KR} {b n : Nat} (hK : KOk K b n) (h : ¬ K 33 = nI 999) : KOk (kDark K n) (b + 2) n := by
  refine hK.darkA.night ?_
  have := hK.day_lt h
  unfold kDay at *
  rw [pk_un (by omega)]
  exact this
theorem c_X6_dark {M : MM} {b n u : Nat} (hK : KOk (M.2.2.1 2) b n) (hb : b ≤ 1000000) (hu : u ≤ 16) (hM : M.1 28 = nI u) : MC E fX6_dark L M ph [] (rI fun r M' => r = (oGoodOr (oDarkK M n u)).1 ∧ mA (oGoodOr (oDarkK M n u)).2 M') := by
  have hv : 0 ≤ (oDarkK M n u).1 ∨ ∃ k, k < 7 ∧ (oDarkK M n u).1 = -nI k := by
    unfold oDarkK
    split
    · exact Or.inr ⟨3, by omega, rfl⟩
    · rename_i q
      obtain ⟨v, hv, e⟩ := (hK.dark q).2.2.1.2.1
      exact Or.inl (nI_nn ⟨v, by omega, e⟩)
  refine Ct.of [some (.ref (L.1 52))] rfl (Nat.le_of_ble_eq_true rfl) (show plainName RX6 = true by decide +kernel) rfl ?_
  refine G.aload_n0 dX6_dark_0 ?_
  refine G.aload_n0 dX6_dark_1 ?_
  refine G.mcall (f' := fX6_darkKept) q2236 ck_X6_darkKept (c_X6_darkKept hK hu hM) dX6_dark_2 (rI.k fun r_2 M_2 h_2 => ?_)
  obtain ⟨rfl, g1⟩ := h_2
  refine G.mcall (f' := fX6_goodOr) q2199 ck_X6_goodOr (c_X6_goodOr (M := M_2) _ hv) dX6_dark_5 (rI.k fun r_5 M_5 h_5 => ?_)
  have g2 := gA g1
  have e1 : r_5 = (oGoodOr ((oDarkK M n u).1, M_2)).1 := congrArg Prod.fst h_5
  have e2 : M_5 = (oGoodOr ((oDarkK M n u).1, M_2)).2 := congrArg Prod.snd h_5
  refine G.ireturn dX6_dark_8 ?_
  exact ⟨_, rfl, _, rfl, e1.trans g2.1, by rw [e2]; exact g2.2⟩
def kHarmN (K : KR) (p : Nat) : Nat → Int32
  | 0 => nI 0
  | q + 1 => kHarmN K p q + if ¬ q = p ∧ K (54 + 10 * p + q) = nI 1 then kLess (wOf K q) (kSpoils K p q) else nI 0
def kHarm (K : KR) (n : Nat) (p : Int32) : Int32 := if (0 ≤ p.toInt ∧ p.toInt < n) ∧ ¬ K (tNat p) = nI 3 then kHarmN K (tNat p) n else -1
theorem c_X6_harm {M : MM} {b n : Nat} (hK : KOk (M.2.2.1 2) b n) (p : Int32) : MC E fX6_harm L M ph [.int p] (rI fun r M' => r = kHarm (M.2.2.1 2) n p ∧ mA M M') := by
  have h10 := hK.1.1
  refine Ct.of [some (.ref (L.1 52)), some (.int p), none, none] rfl (Nat.le_of_ble_eq_true rfl) (show plainName RX6 = true by decide +kernel) rfl ?_
  refine G.aload_n0 dX6_harm_0 ?_
  refine G.iload_n1 dX6_harm_1 ?_
  refine G.mcall (f' := fX6_isPerson) q1950 ck_X6_isPerson (c_X6_isPerson E L M ph p h10 hK.1.2) dX6_harm_2 (rI.k fun r_2 M_2 h_2 => ?_)
  obtain ⟨e_2, h_2⟩ := h_2; replace e_2 := e_2.symm; replace h_2 := h_2.symm; subst e_2; subst h_2
  refine G.ifb_eq (tgt := 20) dX6_harm_5 (by decide) (fun c_5 => ?_) (fun c_5 => ?_)
  · have q := of_decide_eq_false c_5
    refine G.iconst (v := -1) dX6_harm_20 (by decide) ?_
    refine G.ireturn dX6_harm_21 ?_
    first
    | exact ⟨_, rfl, _, rfl, (if_neg (fun z => q z.1)).symm, mX.rf⟩
    | exact ⟨_, rfl, _, rfl, (if_neg (fun z => z.2 (by rw [tNat_nI (by omega)]; exact c_17))).symm, mX.rf⟩
  · have q := of_decide_eq_true c_5
    obtain ⟨k, hk, rfl⟩ := oP q h10
    refine G.aload_n0 dX6_harm_8 ?_
    refine G.mgeta 2 fl_X6_24 dX6_harm_9 ?_
    refine G.iconst (v := nI 0) dX6_harm_12 (by decide) ?_
    refine G.iload_n1 dX6_harm_13 ?_
    first | with_reducible refine G.iaddn dX6_harm_14 ?_ | refine G.iadd dX6_harm_14 ?_
    refine G.miald (n := 5866) 2 k dX6_harm_15 (congrArg nI (Nat.zero_add k)) (by omega) ?_
    refine G.iconst (v := nI 3) dX6_harm_16 (by decide) ?_
    refine G.icmp_ne (tgt := 22) dX6_harm_17 (by decide) (fun c_17 => ?_) (fun c_17 => ?_)
    · refine G.iconst (v := nI 0) dX6_harm_22 (by decide) ?_
      refine G.istore_n2 dX6_harm_23 ?_
      refine G.iconst (v := nI 0) dX6_harm_24 (by decide) ?_
      refine G.istore_n3 dX6_harm_25 ?_
      rw [show kHarm (M.2.2.1 2) n (nI k) = kHarmN (M.2.2.1 2) k n from (if_pos ⟨q, by rw [tNat_nI (by omega)]; exact c_17⟩).trans (by rw [tNat_nI (by omega)])]
      have loop : ∀ d i M2, i + d = n → mA M M2 → G E fX6_harm (mFin E fX6_harm L ph (rI fun r M' => r = kHarmN (M.2.2.1 2) k n ∧ mA M M')) 26 [some (.ref (L.1 52)), some (.int (nI k)), some (.int (kHarmN (M.2.2.1 2) k i)), some (.int (nI i))] [] (movl L M2 ph) 0 0 := by
        intro d
        induction d with
        | zero =>
          intro i M2 hi hx
          have e2 : M2.2.2.1 2 = M.2.2.1 2 := hx.2.2.1 2 (by decide)
          refine G.iload_n3 dX6_harm_26 ?_
          refine G.aload_n0 dX6_harm_27 ?_
          refine G.mcall (f' := fX6_people) q1938 ck_X6_people (c_X6_people E L _ ph) dX6_harm_28 (rI.k fun r_28 M_28 h_28 => ?_)
          obtain ⟨e_28, h_28⟩ := h_28; replace e_28 := e_28.symm; replace h_28 := h_28.symm; subst e_28; subst h_28
          rw [e2, hK.1.2]
          refine G.icmp_ge (tgt := 75) dX6_harm_31 (by decide) (fun c_31 => ?_) (fun c_31 => ?_)
          · refine G.iload_n2 dX6_harm_75 ?_
            refine G.ireturn dX6_harm_76 ?_
            exact ⟨_, rfl, _, rfl, by rw [show i = n from by omega], hx⟩
          · exact absurd (nI_leI (by omega) (by omega) |>.mpr (by omega)) c_31
        | succ d ih =>
          intro i M2 hi hx
          have e2 : M2.2.2.1 2 = M.2.2.1 2 := hx.2.2.1 2 (by decide)
          have hgo := fun M2 => ih (i + 1) M2 (by omega)
          clear ih
          have k67 : ∀ (v : Int32) (M3 : MM), v = (if ¬ i = k ∧ M.2.2.1 2 (54 + 10 * k + i) = nI 1 then kLess (wOf (M.2.2.1 2) i) (kSpoils (M.2.2.1 2) k i) else nI 0) → mA M M3 → G E fX6_harm (mFin E fX6_harm L ph (rI fun r M' => r = kHarmN (M.2.2.1 2) k n ∧ mA M M')) 67 [some (.ref (L.1 52)), some (.int (nI k)), some (.int (kHarmN (M.2.2.1 2) k i)), some (.int (nI i))] [.int v, .int (kHarmN (M.2.2.1 2) k i)] (movl L M3 ph) 0 0 := by
            intro v M3 hv hx3
            have := hgo M3 hx3
            rw [kHarmN, ← hv] at this
            refine G.iadd dX6_harm_67 ?_
            refine G.istore_n2 dX6_harm_68 ?_
            refine G.iinc3 dX6_harm_69 ?_
            try rw [show ∀ a : Nat, nI a + Int32.ofInt 1 = nI (a + 1) from fun a => nI_add a 1]
            refine G.goto (tgt := 26) dX6_harm_72 (by decide) ?_
            exact this
          refine G.iload_n3 dX6_harm_26 ?_
          refine G.aload_n0 dX6_harm_27 ?_
          refine G.mcall (f' := fX6_people) q1938 ck_X6_people (c_X6_people E L _ ph) dX6_harm_28 (rI.k fun r_28 M_28 h_28 => ?_)
          obtain ⟨e_28, h_28⟩ := h_28; replace e_28 := e_28.symm; replace h_28 := h_28.symm; subst e_28; subst h_28
          rw [e2, hK.1.2]
          refine G.icmp_ge (tgt := 75) dX6_harm_31 (by decide) (fun c_31 => ?_) (fun c_31 => ?_)
          · exact absurd ((nI_leI (by omega) (by omega)).mp c_31) (by omega)
          · refine G.iload_n2 dX6_harm_34 ?_
            refine G.iload_n3 dX6_harm_35 ?_
            refine G.iload_n1 dX6_harm_36 ?_
            refine G.icmp_eq (tgt := 66) dX6_harm_37 (by decide) (fun c_37 => ?_) (fun c_37 => ?_)
            · have n_37 : i = k := (nI_inj (by omega) (by omega)).mp c_37
              refine G.iconst (v := nI 0) dX6_harm_66 (by decide) ?_
              first
              | exact k67 _ _ (if_pos ⟨n_37, q4⟩).symm (hx.tr g1 (by simp) (by simp))
              | exact k67 _ M2 (if_neg (fun z => q4 z.2)).symm hx
              | exact k67 _ M2 (if_neg (fun z => z.1 n_37)).symm hx
            · have n_37 : ¬ i = k := fun z => c_37 (congrArg nI z)
              refine G.aload_n0 dX6_harm_40 ?_
              refine G.iload_n1 dX6_harm_41 ?_
              refine G.iload_n3 dX6_harm_42 ?_
              refine G.mcall (f' := fX6_doTalk) q2221 ck_X6_doTalk (c_X6_doTalk E L _ ph (a := k) (b := i) (by omega) (by omega)) dX6_harm_43 (rI.k fun r_43 M_43 h_43 => ?_)
              obtain ⟨e_43, h_43⟩ := h_43; replace e_43 := e_43.symm; replace h_43 := h_43.symm; subst e_43; subst h_43
              refine G.ifb_eq (tgt := 66) dX6_harm_46 (by decide) (fun c_46 => ?_) (fun c_46 => ?_)
              · have q4 := of_decide_eq_false c_46
                rw [e2] at q4
                refine G.iconst (v := nI 0) dX6_harm_66 (by decide) ?_
                first
                | exact k67 _ _ (if_pos ⟨n_37, q4⟩).symm (hx.tr g1 (by simp) (by simp))
                | exact k67 _ M2 (if_neg (fun z => q4 z.2)).symm hx
                | exact k67 _ M2 (if_neg (fun z => z.1 n_37)).symm hx
              · have q4 := of_decide_eq_true c_46
                rw [e2] at q4
                refine G.aload_n0 dX6_harm_49 ?_
                refine G.iload_n3 dX6_harm_50 ?_
                refine G.mcall (f' := fX6_worthOf) q1966 ck_X6_worthOf (c_X6_worthOf E L _ ph (k := i) (by omega)) dX6_harm_51 (rI.k fun r_51 M_51 h_51 => ?_)
                obtain ⟨e_51, h_51⟩ := h_51; replace e_51 := e_51.symm; replace h_51 := h_51.symm; subst e_51; subst h_51
                refine G.aload_n0 dX6_harm_54 ?_
                refine G.iload_n1 dX6_harm_55 ?_
                refine G.iload_n3 dX6_harm_56 ?_
                refine G.mcall (f' := fX6_spoilsBy) q2179 ck_X6_spoilsBy (c_X6_spoilsBy (M := M2) (b := b) (n := n) (p := k) (q := i) (by rw [e2]; exact hK) hk (by omega)) dX6_harm_57 (rI.k fun r_57 M_57 h_57 => ?_)
                obtain ⟨rfl, g1⟩ := h_57
                rw [e2, show sWorth M2 i = wOf (M.2.2.1 2) i from by rw [← e2]; rfl]
                refine G.scall (f' := fX6_lesser) q2225 ck_X6_lesser (c_X6_lesser E _ _) dX6_harm_60 (sI.k fun r_60 h_60 => ?_)
                replace h_60 := h_60.symm; subst h_60
                refine G.goto (tgt := 67) dX6_harm_63 (by decide) ?_
                first
                | exact k67 _ _ (if_pos ⟨n_37, q4⟩).symm (hx.tr g1 (by simp) (by simp))
                | exact k67 _ M2 (if_neg (fun z => q4 z.2)).symm hx
                | exact k67 _ M2 (if_neg (fun z => z.1 n_37)).symm hx
      exact loop n 0 M (by omega) mX.rf
    · refine G.iconst (v := -1) dX6_harm_20 (by decide) ?_
      refine G.ireturn dX6_harm_21 ?_
      first
      | exact ⟨_, rfl, _, rfl, (if_neg (fun z => q z.1)).symm, mX.rf⟩
      | exact ⟨_, rfl, _, rfl, (if_neg (fun z => z.2 (by rw [tNat_nI (by omega)]; exact c_17))).symm, mX.rf⟩
def kTalkRow (K : KR) (p : Nat) : Nat → Nat
  | 0 => 0
  | q + 1 => kTalkRow K p q + if K (54 + 10 * p + q) = nI 1 then 1 else 0
def kTalks (K : KR) : Nat → Nat
  | 0 => 0
  | p + 1 => kTalks K p + kTalkRow K p p
def oCount (M : MM) (n : Nat) (w : Int32) : Int32 := if w = nI 0 then M.2.2.1 2 256 else if w = nI 1 then nI (kTalks (M.2.2.1 2) n) else if w = nI 2 then M.2.2.1 2 30 else if w = nI 3 then M.2.2.1 2 31 else if w = nI 4 then M.2.2.1 2 32 else if w = nI 5 then M.2.2.1 2 257 else if w = nI 6 then M.1 28 else if w = nI 7 then M.1 13 else if w = nI 8 then M.2.2.1 1 1 else if w = nI 9 then M.2.2.1 1 2 else if w = nI 10 then M.2.2.1 1 3 else if w = nI 11 then M.2.2.1 1 5 else if w = nI 12 then M.2.2.1 1 6 else if w = nI 13 then M.2.2.1 2 258 else if w = nI 14 then M.2.2.1 2 33 else if w = nI 15 then M.2.2.1 2 254 else if w = nI 16 then M.2.2.1 2 255 else -1
theorem c_X6_count {M : MM} {n : Nat} (h10 : n ≤ 10) (hn : M.2.2.1 2 256 = nI n) (w : Int32) : MC E fX6_count L M ph [.int w] (rI fun r M' => (r, M') = (oCount M n w, M)) := by
  refine Ct.of [some (.ref (L.1 52)), some (.int w), none, none, none] rfl (Nat.le_of_ble_eq_true rfl) (show plainName RX6 = true by decide +kernel) rfl ?_
  have k51 : ∀ a3 a4, G E fX6_count (mFin E fX6_count L ph (rI fun r M' => (r, M') = (oCount M n w, M))) 51 [some (.ref (L.1 52)), some (.int w), some (.int (nI (kTalks (M.2.2.1 2) n))), a3, a4] [] (movl L M ph) 0 0 := by
    intro a3 a4
    refine G.iload_n1 dX6_count_51 ?_
    refine G.tab (hi := 16) dX6_count_52 (tgt := 242) (by decide) (fun c_52 => ?_) (fun k_52 hk_52 c_52 => ?_)
    · refine G.iconst (v := -1) dX6_count_242 (by decide) ?_
      refine G.ireturn dX6_count_243 ?_
      have no : ∀ j, j ≤ 16 → ¬ w = nI j := fun j hj z => by rw [z, t_nI (by omega)] at c_52; omega
      refine oFin ?_
      unfold oCount
      rw [if_neg (no 0 (by omega)), if_neg (no 1 (by omega)), if_neg (no 2 (by omega)), if_neg (no 3 (by omega)), if_neg (no 4 (by omega)), if_neg (no 5 (by omega)), if_neg (no 6 (by omega)), if_neg (no 7 (by omega)), if_neg (no 8 (by omega)), if_neg (no 9 (by omega)), if_neg (no 10 (by omega)), if_neg (no 11 (by omega)), if_neg (no 12 (by omega)), if_neg (no 13 (by omega)), if_neg (no 14 (by omega)), if_neg (no 15 (by omega)), if_neg (no 16 (by omega))]
    · rcases (show k_52 = 0 ∨ k_52 = 1 ∨ k_52 = 2 ∨ k_52 = 3 ∨ k_52 = 4 ∨ k_52 = 5 ∨ k_52 = 6 ∨ k_52 = 7 ∨ k_52 = 8 ∨ k_52 = 9 ∨ k_52 = 10 ∨ k_52 = 11 ∨ k_52 = 12 ∨ k_52 = 13 ∨ k_52 = 14 ∨ k_52 = 15 ∨ k_52 = 16 from by omega) with rfl | rfl | rfl | rfl | rfl | rfl | rfl | rfl | rfl | rfl | rfl | rfl | rfl | rfl | rfl | rfl | rfl
      · refine ⟨136, 84, rfl, by decide, ?_⟩
        refine G.aload_n0 dX6_count_136 ?_
        refine G.mcall (f' := fX6_people) q1938 ck_X6_people (c_X6_people E L _ ph) dX6_count_137 (rI.k fun r_137 M_137 h_137 => ?_)
        obtain ⟨e_137, h_137⟩ := h_137; replace e_137 := e_137.symm; replace h_137 := h_137.symm; subst e_137; subst h_137
        refine G.ireturn dX6_count_140 ?_
        try subst c_52
        exact oFin rfl
      · refine ⟨141, 89, rfl, by decide, ?_⟩
        refine G.iload_n2 dX6_count_141 ?_
        refine G.ireturn dX6_count_142 ?_
        try subst c_52
        exact oFin rfl
      · refine ⟨143, 91, rfl, by decide, ?_⟩
        refine G.aload_n0 dX6_count_143 ?_
        refine G.mgeta 2 fl_X6_24 dX6_count_144 ?_
        refine G.bipush (v := nI 30) dX6_count_147 (by decide) ?_
        refine G.miald (n := 5866) 2 _ dX6_count_149 rfl (by omega) ?_
        refine G.ireturn dX6_count_150 ?_
        try subst c_52
        exact oFin rfl
      · refine ⟨151, 99, rfl, by decide, ?_⟩
        refine G.aload_n0 dX6_count_151 ?_
        refine G.mgeta 2 fl_X6_24 dX6_count_152 ?_
        refine G.bipush (v := nI 31) dX6_count_155 (by decide) ?_
        refine G.miald (n := 5866) 2 _ dX6_count_157 rfl (by omega) ?_
        refine G.ireturn dX6_count_158 ?_
        try subst c_52
        exact oFin rfl
      · refine ⟨159, 107, rfl, by decide, ?_⟩
        refine G.aload_n0 dX6_count_159 ?_
        refine G.mgeta 2 fl_X6_24 dX6_count_160 ?_
        refine G.bipush (v := nI 32) dX6_count_163 (by decide) ?_
        refine G.miald (n := 5866) 2 _ dX6_count_165 rfl (by omega) ?_
        refine G.ireturn dX6_count_166 ?_
        try subst c_52
        exact oFin rfl
      · refine ⟨167, 115, rfl, by decide, ?_⟩
        refine G.aload_n0 dX6_count_167 ?_
        refine G.mgeta 2 fl_X6_24 dX6_count_168 ?_
        refine G.sipush (v := nI 257) dX6_count_171 (by decide) ?_
        refine G.miald (n := 5866) 2 _ dX6_count_174 rfl (by omega) ?_
        refine G.ireturn dX6_count_175 ?_
        try subst c_52
        exact oFin rfl
      · refine ⟨176, 124, rfl, by decide, ?_⟩
        refine G.aload_n0 dX6_count_176 ?_
        refine G.mgeti 28 fl_X6_11 dX6_count_177 ?_
        refine G.ireturn dX6_count_180 ?_
        try subst c_52
        exact oFin rfl
      · refine ⟨181, 129, rfl, by decide, ?_⟩
        refine G.aload_n0 dX6_count_181 ?_
        refine G.mgeti 13 fl_X6_141 dX6_count_182 ?_
        refine G.ireturn dX6_count_185 ?_
        try subst c_52
        exact oFin rfl
      · refine ⟨186, 134, rfl, by decide, ?_⟩
        refine G.aload_n0 dX6_count_186 ?_
        refine G.mgeta 1 fl_X6_7 dX6_count_187 ?_
        refine G.iload_n1 dX6_count_190 ?_
        refine G.bipush (v := nI 7) dX6_count_191 (by decide) ?_
        refine G.isub dX6_count_193 ?_
        try subst c_52
        try rw [pk_sub (by decide)]
        refine G.miald (n := 7) 1 _ dX6_count_194 rfl (by omega) ?_
        refine G.ireturn dX6_count_195 ?_
        try subst c_52
        exact oFin rfl
      · refine ⟨186, 134, rfl, by decide, ?_⟩
        refine G.aload_n0 dX6_count_186 ?_
        refine G.mgeta 1 fl_X6_7 dX6_count_187 ?_
        refine G.iload_n1 dX6_count_190 ?_
        refine G.bipush (v := nI 7) dX6_count_191 (by decide) ?_
        refine G.isub dX6_count_193 ?_
        try subst c_52
        try rw [pk_sub (by decide)]
        refine G.miald (n := 7) 1 _ dX6_count_194 rfl (by omega) ?_
        refine G.ireturn dX6_count_195 ?_
        try subst c_52
        exact oFin rfl
      · refine ⟨186, 134, rfl, by decide, ?_⟩
        refine G.aload_n0 dX6_count_186 ?_
        refine G.mgeta 1 fl_X6_7 dX6_count_187 ?_
        refine G.iload_n1 dX6_count_190 ?_
        refine G.bipush (v := nI 7) dX6_count_191 (by decide) ?_
        refine G.isub dX6_count_193 ?_
        try subst c_52
        try rw [pk_sub (by decide)]
        refine G.miald (n := 7) 1 _ dX6_count_194 rfl (by omega) ?_
        refine G.ireturn dX6_count_195 ?_
        try subst c_52
        exact oFin rfl
      · refine ⟨196, 144, rfl, by decide, ?_⟩
        refine G.aload_n0 dX6_count_196 ?_
        refine G.mgeta 1 fl_X6_7 dX6_count_197 ?_
        refine G.iconst (v := nI 5) dX6_count_200 (by decide) ?_
        refine G.miald (n := 7) 1 _ dX6_count_201 rfl (by omega) ?_
        refine G.ireturn dX6_count_202 ?_
        try subst c_52
        exact oFin rfl
      · refine ⟨203, 151, rfl, by decide, ?_⟩
        refine G.aload_n0 dX6_count_203 ?_
        refine G.mgeta 1 fl_X6_7 dX6_count_204 ?_
        refine G.bipush (v := nI 6) dX6_count_207 (by decide) ?_
        refine G.miald (n := 7) 1 _ dX6_count_209 rfl (by omega) ?_
        refine G.ireturn dX6_count_210 ?_
        try subst c_52
        exact oFin rfl
      · refine ⟨211, 159, rfl, by decide, ?_⟩
        refine G.aload_n0 dX6_count_211 ?_
        refine G.mgeta 2 fl_X6_24 dX6_count_212 ?_
        refine G.sipush (v := nI 258) dX6_count_215 (by decide) ?_
        refine G.miald (n := 5866) 2 _ dX6_count_218 rfl (by omega) ?_
        refine G.ireturn dX6_count_219 ?_
        try subst c_52
        exact oFin rfl
      · refine ⟨220, 168, rfl, by decide, ?_⟩
        refine G.aload_n0 dX6_count_220 ?_
        refine G.mgeta 2 fl_X6_24 dX6_count_221 ?_
        refine G.bipush (v := nI 33) dX6_count_224 (by decide) ?_
        refine G.miald (n := 5866) 2 _ dX6_count_226 rfl (by omega) ?_
        refine G.ireturn dX6_count_227 ?_
        try subst c_52
        exact oFin rfl
      · refine ⟨228, 176, rfl, by decide, ?_⟩
        refine G.aload_n0 dX6_count_228 ?_
        refine G.mgeta 2 fl_X6_24 dX6_count_229 ?_
        refine G.sipush (v := nI 254) dX6_count_232 (by decide) ?_
        refine G.iload_n1 dX6_count_235 ?_
        try subst c_52
        first | with_reducible refine G.iaddn dX6_count_236 ?_ | refine G.iadd dX6_count_236 ?_
        refine G.bipush (v := nI 15) dX6_count_237 (by decide) ?_
        refine G.isub dX6_count_239 ?_
        first | rw [pk_sub (show 15 ≤ 254 + 15 from by decide)] | rw [pk_sub (show 15 ≤ 254 + 16 from by decide)]
        refine G.miald (n := 5866) 2 _ dX6_count_240 rfl (by omega) ?_
        refine G.ireturn dX6_count_241 ?_
        try subst c_52
        exact oFin rfl
      · refine ⟨228, 176, rfl, by decide, ?_⟩
        refine G.aload_n0 dX6_count_228 ?_
        refine G.mgeta 2 fl_X6_24 dX6_count_229 ?_
        refine G.sipush (v := nI 254) dX6_count_232 (by decide) ?_
        refine G.iload_n1 dX6_count_235 ?_
        try subst c_52
        first | with_reducible refine G.iaddn dX6_count_236 ?_ | refine G.iadd dX6_count_236 ?_
        refine G.bipush (v := nI 15) dX6_count_237 (by decide) ?_
        refine G.isub dX6_count_239 ?_
        first | rw [pk_sub (show 15 ≤ 254 + 15 from by decide)] | rw [pk_sub (show 15 ≤ 254 + 16 from by decide)]
        refine G.miald (n := 5866) 2 _ dX6_count_240 rfl (by omega) ?_
        refine G.ireturn dX6_count_241 ?_
        try subst c_52
        exact oFin rfl
  have outer : ∀ d i a4, i + d = n → G E fX6_count (mFin E fX6_count L ph (rI fun r M' => (r, M') = (oCount M n w, M))) 4 [some (.ref (L.1 52)), some (.int w), some (.int (nI (kTalks (M.2.2.1 2) i))), some (.int (nI i)), a4] [] (movl L M ph) 0 0 := by
    intro d
    induction d with
    | zero =>
      intro i a4 hi
      refine G.iload_n3 dX6_count_4 ?_
      refine G.aload_n0 dX6_count_5 ?_
      refine G.mcall (f' := fX6_people) q1938 ck_X6_people (c_X6_people E L _ ph) dX6_count_6 (rI.k fun r_6 M_6 h_6 => ?_)
      obtain ⟨e_6, h_6⟩ := h_6; replace e_6 := e_6.symm; replace h_6 := h_6.symm; subst e_6; subst h_6
      rw [hn]
      refine G.icmp_ge (tgt := 51) dX6_count_9 (by decide) (fun c_9 => ?_) (fun c_9 => ?_)
      · rw [show i = n from by omega]
        exact k51 _ _
      · exact absurd (nI_leI (by omega) (by omega) |>.mpr (by omega)) c_9
    | succ d ih =>
      intro i a4 hi
      have hgo := fun a4 => ih (i + 1) a4 (by omega)
      clear ih
      have inner : ∀ d2 j, j + d2 = i → G E fX6_count (mFin E fX6_count L ph (rI fun r M' => (r, M') = (oCount M n w, M))) 15 [some (.ref (L.1 52)), some (.int w), some (.int (nI (kTalks (M.2.2.1 2) i + kTalkRow (M.2.2.1 2) i j))), some (.int (nI i)), some (.int (nI j))] [] (movl L M ph) 0 0 := by
        intro d2
        induction d2 with
        | zero =>
          intro j hj
          refine G.iload4 dX6_count_15 ?_
          refine G.iload_n3 dX6_count_17 ?_
          refine G.icmp_ge (tgt := 45) dX6_count_18 (by decide) (fun c_18 => ?_) (fun c_18 => ?_)
          · refine G.iinc3 dX6_count_45 ?_
            try rw [show ∀ a : Nat, nI a + Int32.ofInt 1 = nI (a + 1) from fun a => nI_add a 1]
            refine G.goto (tgt := 4) dX6_count_48 (by decide) ?_
            rw [show j = i from by omega]
            exact hgo _
          · exact absurd (nI_leI (by omega) (by omega) |>.mpr (by omega)) c_18
        | succ d2 ih2 =>
          intro j hj
          have hgo2 := ih2 (j + 1) (by omega)
          clear ih2
          refine G.iload4 dX6_count_15 ?_
          refine G.iload_n3 dX6_count_17 ?_
          refine G.icmp_ge (tgt := 45) dX6_count_18 (by decide) (fun c_18 => ?_) (fun c_18 => ?_)
          · exact absurd ((nI_leI (by omega) (by omega)).mp c_18) (by omega)
          · refine G.iload_n2 dX6_count_21 ?_
            refine G.aload_n0 dX6_count_22 ?_
            refine G.iload_n3 dX6_count_23 ?_
            refine G.iload4 dX6_count_24 ?_
            refine G.mcall (f' := fX6_doTalk) q2221 ck_X6_doTalk (c_X6_doTalk E L _ ph (a := i) (b := j) (by omega) (by omega)) dX6_count_26 (rI.k fun r_26 M_26 h_26 => ?_)
            obtain ⟨e_26, h_26⟩ := h_26; replace e_26 := e_26.symm; replace h_26 := h_26.symm; subst e_26; subst h_26
            refine G.ifb_eq (tgt := 36) dX6_count_29 (by decide) (fun c_29 => ?_) (fun c_29 => ?_)
            · have q4 := of_decide_eq_false c_29
              rw [kTalkRow, if_neg q4] at hgo2
              refine G.iconst (v := nI 0) dX6_count_36 (by decide) ?_
              first | with_reducible refine G.iaddn dX6_count_37 ?_ | refine G.iadd dX6_count_37 ?_
              refine G.istore_n2 dX6_count_38 ?_
              refine G.iinc4 dX6_count_39 ?_
              try rw [show ∀ a : Nat, nI a + Int32.ofInt 1 = nI (a + 1) from fun a => nI_add a 1]
              refine G.goto (tgt := 15) dX6_count_42 (by decide) ?_
              first
              | exact hgo2
              | (rw [Nat.add_assoc]; exact hgo2)
            · have q4 := of_decide_eq_true c_29
              rw [kTalkRow, if_pos q4] at hgo2
              refine G.iconst (v := nI 1) dX6_count_32 (by decide) ?_
              refine G.goto (tgt := 37) dX6_count_33 (by decide) ?_
              first | with_reducible refine G.iaddn dX6_count_37 ?_ | refine G.iadd dX6_count_37 ?_
              refine G.istore_n2 dX6_count_38 ?_
              refine G.iinc4 dX6_count_39 ?_
              try rw [show ∀ a : Nat, nI a + Int32.ofInt 1 = nI (a + 1) from fun a => nI_add a 1]
              refine G.goto (tgt := 15) dX6_count_42 (by decide) ?_
              first
              | exact hgo2
              | (rw [Nat.add_assoc]; exact hgo2)
      refine G.iload_n3 dX6_count_4 ?_
      refine G.aload_n0 dX6_count_5 ?_
      refine G.mcall (f' := fX6_people) q1938 ck_X6_people (c_X6_people E L _ ph) dX6_count_6 (rI.k fun r_6 M_6 h_6 => ?_)
      obtain ⟨e_6, h_6⟩ := h_6; replace e_6 := e_6.symm; replace h_6 := h_6.symm; subst e_6; subst h_6
      rw [hn]
      refine G.icmp_ge (tgt := 51) dX6_count_9 (by decide) (fun c_9 => ?_) (fun c_9 => ?_)
      · exact absurd ((nI_leI (by omega) (by omega)).mp c_9) (by omega)
      · refine G.iconst (v := nI 0) dX6_count_12 (by decide) ?_
        refine G.istore4 dX6_count_13 ?_
        exact inner i 0 (by omega)
  refine G.iconst (v := nI 0) dX6_count_0 (by decide) ?_
  refine G.istore_n2 dX6_count_1 ?_
  refine G.iconst (v := nI 0) dX6_count_2 (by decide) ?_
  refine G.istore_n3 dX6_count_3 ?_
  exact outer n 0 none (by omega)
end ActCalls
