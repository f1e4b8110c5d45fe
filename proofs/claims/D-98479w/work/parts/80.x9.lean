/-! LITSTRANGERS: what the law in force tells -/
theorem wPm_lt {i : Nat} (h : i < 10) : wPm false i < 10 := by
  have : ∀ i, i < 10 → wPm false i < 10 := by decide
  exact this i h
theorem envA_of {D : XD} {K : KR} {a : Nat → Int32} (h : ∀ i, i < 10 → D.2.2.1 16 i = (a (wPm false i)).toInt64) : envA D (aEn K a) := by
  intro i hi
  rw [h i hi]
  exact (if_pos (wPm_lt hi)).symm
/-- at the end is the same as at each step -/
theorem zStep_raw {c : Cl} {head : Nat} {e : En} {high w : Int64} : (if c.1 = head ∧ zHolds c.2.2.2 e = true then (match zTold c.2.1 e with
      | none => zClamp high w
      | some v => zClamp high v) else zClamp high w) = zClamp high (if c.1 = head ∧ zHolds c.2.2.2 e = true then (match zTold c.2.1 e with
      | none => w
      | some v => v) else w) := by
  by_cases q : c.1 = head ∧ zHolds c.2.2.2 e = true
  · rw [if_pos q, if_pos q]
    cases zTold c.2.1 e with
    | none => rfl
    | some v => rfl
  · rw [if_neg q, if_neg q]
theorem zTells_raw {head : Nat} {e : En} {high : Int64} (cs : List Cl) : ∀ w : Int64, zTells cs head e high (zClamp high w) = zClamp high (zRaw cs head e w) := by
  unfold zTells zRaw
  induction cs with
  | nil => intro w; rw [List.foldl_nil, List.foldl_nil]
  | cons c cs ih =>
    intro w
    rw [List.foldl_cons, List.foldl_cons, ← ih]
    exact congrArg (fun z => List.foldl _ z cs) zStep_raw
theorem zClamp_mm {high v : Int64} (hh : 0 ≤ high) : (if (if v < high then v else high) < 0 then 0 else (if v < high then v else high)) = zClamp high v := by
  unfold zClamp
  simp only [l_lt, l_le] at *
  by_cases q : v.toInt < high.toInt
  · rw [if_pos q]
    by_cases q2 : v.toInt < (0 : Int64).toInt
    · rw [if_pos q2, if_pos q2]
    · rw [if_neg q2, if_neg q2, if_neg (by omega)]
  · rw [if_neg q, if_neg (by omega)]
    by_cases q2 : v.toInt < (0 : Int64).toInt
    · omega
    · rw [if_neg q2]
      by_cases q3 : high.toInt < v.toInt
      · rw [if_pos q3]
      · rw [if_neg q3]
        exact Int64.toInt_inj.mp (by omega)
theorem zClamp_in {high w : Nat} (h : w ≤ high) (hh : high < 2147483648) : zClamp (nI high).toInt64 (nI w).toInt64 = (nI w).toInt64 := by
  have e0 : (0 : Int64).toInt = 0 := by decide
  unfold zClamp
  rw [if_neg (by rw [l_lt, i64_t, t_nI (by omega), e0]; omega), if_neg (by rw [l_lt, i64_t, i64_t, t_nI (by omega), t_nI (by omega)]; omega)]
theorem i64_32 (x : Int32) : x.toInt64.toInt32 = x := by
  rw [← Int32.toInt_inj, Int64.toInt_toInt32, i64_t]
  have h1 := Int32.le_toInt x
  have h2 := Int32.toInt_lt x
  exact Int.bmod_eq_of_le (by omega) (by omega)
section Tells
variable {E : JE} {L : XL} {ph : HP} {K : KR} {b n : Nat}
theorem c_X0_tells {D : XD} (hB : xdis L D ph) (hC : xCoast L D ph K n) (hK : KOk K b n) {a : Nat → Int32} (hE : envA D (aEn K a)) {head high without : Nat} (hh : head < 4) (hw : without ≤ high) (hhi : high < 2147483648) : XC E fX0_tells 0 L D ph [.int (nI head), .long (nI without).toInt64, .int (nI high)] (wI fun r D' => r = tellsOf K (head + 1) a high without ∧ xX p15 D D') := by
  have hh0 : (0 : Int64) ≤ (nI high).toInt64 := by
    rw [l_le, i64_t, t_nI (by omega), show (0 : Int64).toInt = 0 from by decide]; omega
  have hr : tellsOf K (head + 1) a high without = (zClamp (nI high).toInt64 (zRaw (lawCs K) (head + 1) (aEn K a) (nI without).toInt64)).toInt32 := by
    rw [← zTells_raw, zClamp_in hw hhi]
    unfold tellsOf lawCs
    by_cases q : K 258 = -1
    · rw [if_pos q, if_pos q]
      exact (i64_32 _).symm
    · rw [if_neg q, if_neg q]
  rw [hr]
  refine Ct.of [some (.ref (L.1 0)), some (.int (nI head)), some (.long (nI without).toInt64), none, some (.int (nI high))] rfl (Nat.le_of_ble_eq_true rfl) (show plainName RX0 = true by decide +kernel) rfl ?_
  refine G.lconst (v := 0) dX0_tells_0 (by decide) ?_
  refine G.iload4 dX0_tells_1 ?_
  refine G.i2l dX0_tells_3 rfl ?_
  refine G.aload_n0 dX0_tells_4 ?_
  refine G.xcall (f' := fX0_law1) 0 q1262 ck_X0_law1 (c_X0_law1 hB hC hK) dX0_tells_5 (wA.k fun r_5 D_5 h_5 => ?_)
  obtain ⟨hT, h5⟩ := h_5
  replace h5 := h5.symm
  subst h5
  obtain ⟨tb, tn, tg, tas, hT1, -⟩ := id hT
  refine G.iload_n1 dX0_tells_8 ?_
  refine G.aload_n0 dX0_tells_9 ?_
  refine G.xgetf 0 3 15 fl_X0_30 dX0_tells_10 ?_
  refine G.lload_n2 dX0_tells_13 ?_
  refine G.callV (f' := fX4_tells) q1266 ck_X4_tells (c_Text_tells hh hB hE hT) (xbase hB hT1 rfl) dX0_tells_14 jno (pJ.k fun r_14 H_14 h_14 => ?_)
  obtain ⟨D2, rfl, hx2, rfl⟩ := h_14
  refine G.lmin q1315 dX0_tells_17 ?_
  refine G.lmax q1318 dX0_tells_20 ?_
  rw [zClamp_mm hh0]
  refine G.l2i dX0_tells_23 rfl ?_
  refine G.ireturn dX0_tells_24 ?_
  exact ⟨_, rfl, _, rfl, rfl, hx2⟩
theorem c_X0_isFog {D : XD} (hC : xCoast L D ph K n) (hK : KOk K b n) {d : Nat} (hd : d < 2147483648) : XC E fX0_isFog 0 L D ph [.int (nI d)] (wI fun r D' => r = bI (fogOf K d) ∧ D' = D) := by
  obtain ⟨-, -, -, -, hf, -⟩ := hC
  refine Ct.of [some (.ref (L.1 0)), some (.int (nI d))] rfl (Nat.le_of_ble_eq_true rfl) (show plainName RX0 = true by decide +kernel) rfl ?_
  refine G.iload_n1 dX0_isFog_0 ?_
  refine G.bipush (v := nI 100) dX0_isFog_1 (by decide) ?_
  refine G.icmp_ge (tgt := 22) dX0_isFog_3 (by decide) (fun c_3 => ?_) (fun c_3 => ?_)
  · have n_3 : 100 ≤ d := (nI_leI (a := 100) (b := d) (by omega) (by omega)).mp c_3
    rw [show fogOf K d = false from if_neg (by omega)]
    refine G.iconst (v := nI 0) dX0_isFog_22 (by decide) ?_
    refine G.ireturn dX0_isFog_23 ?_ (hn := by first | rfl | exact bI_nar _)
    first
    | exact ⟨_, rfl, _, rfl, rfl, rfl⟩
    | (cases v with
       | true => first | exact ⟨_, rfl, _, rfl, rfl, rfl⟩ | exact absurd c_15 (by decide)
       | false => first | exact ⟨_, rfl, _, rfl, rfl, rfl⟩ | exact absurd rfl c_15)
  · have n_3 : d < 100 := Nat.lt_of_not_le (fun z => c_3 ((nI_leI (a := 100) (b := d) (by omega) (by omega)).mpr z))
    obtain ⟨v, hv⟩ := hK.2.2.2.2.1 d n_3
    have hfv : fogOf K d = v := by
      unfold fogOf
      rw [if_pos n_3, hv]
      cases v <;> decide
    rw [hfv]
    refine G.aload_n0 dX0_isFog_6 ?_
    refine G.xgetf 0 0 1 fl_X0_10 dX0_isFog_7 ?_
    refine G.xgetf 1 4 11 fl_X0_106 dX0_isFog_10 ?_
    refine G.iload_n1 dX0_isFog_13 ?_
    refine G.xzald (n := 100) 11 d dX0_isFog_14 rfl (by omega) ?_
    rw [hf d n_3, hv]
    refine G.if_eq (tgt := 22) dX0_isFog_15 (by decide) (fun c_15 => ?_) (fun c_15 => ?_)
    · refine G.iconst (v := nI 0) dX0_isFog_22 (by decide) ?_
      refine G.ireturn dX0_isFog_23 ?_ (hn := by first | rfl | exact bI_nar _)
      first
      | exact ⟨_, rfl, _, rfl, rfl, rfl⟩
      | (cases v with
         | true => first | exact ⟨_, rfl, _, rfl, rfl, rfl⟩ | exact absurd c_15 (by decide)
         | false => first | exact ⟨_, rfl, _, rfl, rfl, rfl⟩ | exact absurd rfl c_15)
    · refine G.iconst (v := nI 1) dX0_isFog_18 (by decide) ?_
      refine G.goto (tgt := 23) dX0_isFog_19 (by decide) ?_
      refine G.ireturn dX0_isFog_23 ?_ (hn := by first | rfl | exact bI_nar _)
      first
      | exact ⟨_, rfl, _, rfl, rfl, rfl⟩
      | (cases v with
         | true => first | exact ⟨_, rfl, _, rfl, rfl, rfl⟩ | exact absurd c_15 (by decide)
         | false => first | exact ⟨_, rfl, _, rfl, rfl, rfl⟩ | exact absurd rfl c_15)
theorem c_X0_askOn {D : XD} (hB : xdis L D ph) (hC : xCoast L D ph K n) (h10 : n ≤ 10) {p : Nat} (hp : p < n) (heard day : Int32) (fog : Bool) : XC E fX0_askOn 0 L D ph [.int (nI p), .int heard, .int day, .int (bI fog)] (wV fun D' => xX pAsk D D' ∧ envA D' (aEn K (aSets K p heard none day (bI fog)))) := by
  refine Ct.of [some (.ref (L.1 0)), some (.int (nI p)), some (.int heard), some (.int day), some (.int (bI fog))] rfl (Nat.le_of_ble_eq_true rfl) (show plainName RX0 = true by decide +kernel) rfl ?_
  refine G.aload_n0 dX0_askOn_0 ?_
  refine G.iload_n1 dX0_askOn_1 ?_
  refine G.iload_n2 dX0_askOn_2 ?_
  refine G.iconst (v := -1) dX0_askOn_3 (by decide) ?_
  refine G.iload_n3 dX0_askOn_4 ?_
  refine G.iload4 dX0_askOn_5 ?_
  refine G.ifb_eq (tgt := 14) dX0_askOn_7 (by decide) (fun c_7 => ?_) (fun c_7 => ?_)
  · rw [c_7]
    refine G.iconst (v := nI 0) dX0_askOn_14 (by decide) ?_
    refine G.xcall (f' := fX0_ask) 0 q1253 ck_X0_ask (c_X0_ask hB hC h10 hp heard day (bI false) none (fun q z => by cases z)) dX0_askOn_15 (wV.k fun D_15 h_15 => ?_)
    skip
    refine G.return_ dX0_askOn_18 ?_
    exact ⟨_, rfl, rfl, h_15.1, envA_of h_15.2⟩
  · rw [c_7]
    refine G.iconst (v := nI 1) dX0_askOn_10 (by decide) ?_
    refine G.goto (tgt := 15) dX0_askOn_11 (by decide) ?_
    refine G.xcall (f' := fX0_ask) 0 q1253 ck_X0_ask (c_X0_ask hB hC h10 hp heard day (bI true) none (fun q z => by cases z)) dX0_askOn_15 (wV.k fun D_15 h_15 => ?_)
    skip
    refine G.return_ dX0_askOn_18 ?_
    exact ⟨_, rfl, rfl, h_15.1, envA_of h_15.2⟩
theorem c_X0_askNow {D : XD} (hB : xdis L D ph) (hC : xCoast L D ph K n) (hK : KOk K b n) {p : Nat} (hp : p < n) : XC E fX0_askNow 0 L D ph [.int (nI p)] (wV fun D' => xX pAsk D D' ∧ envA D' (aEn K (aNow K p))) := by
  have h10 := hK.1.1
  have hday := hK.day
  obtain ⟨b1, b2, -⟩ := hC.2.2.1
  obtain ⟨w1, w2, -⟩ := b1 p hp
  refine Ct.of [some (.ref (L.1 0)), some (.int (nI p))] rfl (Nat.le_of_ble_eq_true rfl) (show plainName RX0 = true by decide +kernel) rfl ?_
  refine G.aload_n0 dX0_askNow_0 ?_
  refine G.iload_n1 dX0_askNow_1 ?_
  refine G.aload_n0 dX0_askNow_2 ?_
  refine G.xcall (f' := fX0_books) 0 q557 ck_X0_books (c_X0_books) dX0_askNow_3 (wA.k fun r_3 D_3 h_3 => ?_)
  obtain ⟨e_3, h_3⟩ := h_3; replace e_3 := e_3.symm; replace h_3 := h_3.symm; subst e_3; subst h_3
  refine G.xgetf 6 2 9 fl_X0_143 dX0_askNow_6 ?_
  refine G.iload_n1 dX0_askNow_9 ?_
  refine G.xiald (n := 10) 9 p dX0_askNow_10 rfl (by omega) ?_
  rw [w2]
  refine G.aload_n0 dX0_askNow_11 ?_
  refine G.xcall (f' := fX0_books) 0 q557 ck_X0_books (c_X0_books) dX0_askNow_12 (wA.k fun r_12 D_12 h_12 => ?_)
  obtain ⟨e_12, h_12⟩ := h_12; replace e_12 := e_12.symm; replace h_12 := h_12.symm; subst e_12; subst h_12
  refine G.xgeti 6 3 fl_X0_178 dX0_askNow_15 ?_
  rw [b2]
  refine G.aload_n0 dX0_askNow_18 ?_
  refine G.aload_n0 dX0_askNow_19 ?_
  refine G.xcall (f' := fX0_books) 0 q557 ck_X0_books (c_X0_books) dX0_askNow_20 (wA.k fun r_20 D_20 h_20 => ?_)
  obtain ⟨e_20, h_20⟩ := h_20; replace e_20 := e_20.symm; replace h_20 := h_20.symm; subst e_20; subst h_20
  refine G.xgeti 6 3 fl_X0_178 dX0_askNow_23 ?_
  rw [b2, hday.1]
  refine G.xcall (f' := fX0_isFog) 0 q1245 ck_X0_isFog (c_X0_isFog hC hK (d := kDay K) (by omega)) dX0_askNow_26 (wI.k fun r_26 D_26 h_26 => ?_)
  obtain ⟨e_26, h_26⟩ := h_26; replace e_26 := e_26.symm; replace h_26 := h_26.symm; subst e_26; subst h_26
  refine G.xcall (f' := fX0_askOn) 0 q1249 ck_X0_askOn (c_X0_askOn hB hC h10 hp (K (20 + p)) (nI (kDay K)) (fogOf K (kDay K))) dX0_askNow_29 (wV.k fun D_29 h_29 => ?_)
  skip
  refine G.return_ dX0_askNow_32 ?_
  refine ⟨_, rfl, rfl, h_29.1, ?_⟩
  have := h_29.2
  rw [← hday.1] at this
  exact this
end Tells
