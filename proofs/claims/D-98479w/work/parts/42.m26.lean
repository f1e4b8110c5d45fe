/-! THE MODEL: lands that take turns -/
def kLandsOf (K : KR) (c : Nat) : Nat → Nat
  | 0 => 0
  | p + 1 => kLandsOf K c p ||| if c.testBit p then 1 <<< kLand K p else 0
theorem shl_16 {l : Nat} (hl : l < 4) : 1 <<< l < 16 := by
  rw [Nat.one_shiftLeft]
  exact Nat.pow_lt_pow_right (by omega) (show l < 4 from hl)
theorem or_16 {a b : Nat} (ha : a < 16) (hb : b < 16) : a ||| b < 16 := Nat.or_lt_two_pow (n := 4) ha hb
theorem kLandsOf_lt {K : KR} {b n c : Nat} (hK : KOk K b n) : ∀ p, p ≤ n → kLandsOf K c p < 16
  | 0, _ => by rw [kLandsOf]; omega
  | p + 1, hp => by
    rw [kLandsOf]
    refine or_16 (kLandsOf_lt hK p (by omega)) ?_
    split
    · exact shl_16 (hK.land (show p < n from by omega)).2
    · omega
def zTk (K : KR) (n k u la : Nat) : Nat → Bool := fun c => zOk K n 0 0 k u c && decide (kLandsOf K c n &&& la = 0)
def tnN (K : KR) (n : Nat) : Nat → Nat → Nat → Nat → Nat
  | 0, _, _, _ => 0
  | f + 1, k, u, la => zF (zTk K n k u la) (fun best c => max best (1 + tnN K n f (k + 1) (u ||| c) (kLandsOf K c n))) 0 1024
theorem tnN_le {K : KR} {n : Nat} : ∀ f k u la, tnN K n f k u la ≤ f
  | 0, _, _, _ => Nat.le_refl _
  | f + 1, k, u, la => by
    rw [tnN]
    refine zF_inv (fun x => x ≤ f + 1) (by omega) (fun x c hx => ?_) 1024
    have := tnN_le (K := K) (n := n) f (k + 1) (u ||| c) (kLandsOf K c n)
    omega
theorem zNext_sub {ok g : Nat → Bool} {b c j : Nat} (hbc : b ≤ c) (h : zNext ok c = some j) (hno : ∀ i, b < i → i ≤ c → (ok i && g i) = false) : (g j = true → zNext (fun i => ok i && g i) b = some j) ∧ (g j = false → ∀ i, b < i → i ≤ j → (ok i && g i) = false) := by
  obtain ⟨h1, h2, h3, h4⟩ := zNext_some h
  have key : ∀ i, b < i → i < j → (ok i && g i) = false := by
    intro i q1 q2
    rcases Nat.lt_or_ge c i with y | y
    · rw [h4 i y q2, Bool.false_and]
    · exact hno i q1 y
  refine ⟨fun hg => zNext_of (by omega) h2 (by rw [h3, hg]; rfl) key, fun hg i q1 q2 => ?_⟩
  rcases Nat.lt_or_ge i j with y | y
  · exact key i q1 y
  · rw [show i = j from by omega, hg, Bool.and_false]
theorem zNext_subn {ok g : Nat → Bool} {b c : Nat} (h : zNext ok c = none) (hno : ∀ i, b < i → i ≤ c → (ok i && g i) = false) : zNext (fun i => ok i && g i) b = none := by
  refine zNext_no (fun i q1 q2 => ?_)
  rcases Nat.lt_or_ge c i with y | y
  · rw [zNext_none h i y q2, Bool.false_and]
  · exact hno i q1 y
section Turns
variable {E : JE} {L : ML} {ph : HP}
theorem c_X6_landsOf {M : MM} {K : KR} (e : M.2.2.1 2 = K) {b n : Nat} (hK : KOk K b n) {c : Nat} (hc : c < 1024) : MC E fX6_landsOf L M ph [.int (nI c)] (rI fun r M' => r = nI (kLandsOf K c n) ∧ M' = M) := by
  have h10 := hK.1.1
  refine Ct.of [some (.ref (L.1 52)), some (.int (nI c)), none, none] rfl (Nat.le_of_ble_eq_true rfl) (show plainName RX6 = true by decide +kernel) rfl ?_
  have loop : ∀ d i, i + d = n → G E fX6_landsOf (mFin E fX6_landsOf L ph (rI fun r M' => r = nI (kLandsOf K c n) ∧ M' = M)) 4 [some (.ref (L.1 52)), some (.int (nI c)), some (.int (nI (kLandsOf K c i))), some (.int (nI i))] [] (movl L M ph) 0 0 := by
    intro d
    induction d with
    | zero =>
      intro i hi
      refine G.iload_n3 dX6_landsOf_4 ?_
      refine G.aload_n0 dX6_landsOf_5 ?_
      refine G.mcall (f' := fX6_people) q1938 ck_X6_people (c_X6_people E L _ ph) dX6_landsOf_6 (rI.k fun r_6 M_6 h_6 => ?_)
      obtain ⟨e_6, h_6⟩ := h_6; replace e_6 := e_6.symm; replace h_6 := h_6.symm; subst e_6; subst h_6
      rw [e, hK.1.2]
      refine G.icmp_ge (tgt := 40) dX6_landsOf_9 (by decide) (fun c_9 => ?_) (fun c_9 => ?_)
      · refine G.iload_n2 dX6_landsOf_40 ?_
        refine G.ireturn dX6_landsOf_41 ?_
        exact ⟨_, rfl, _, rfl, by rw [show i = n from by omega], rfl⟩
      · exact absurd (nI_leI (by omega) (by omega) |>.mpr (by omega)) c_9
    | succ d ih =>
      intro i hi
      have hgo := ih (i + 1) (by omega)
      clear ih
      have hlt := kLandsOf_lt (c := c) hK i (by omega)
      have hld := hK.land (show i < n from by omega)
      have hsl := shl_16 hld.2
      have hs1 : c.testBit i = true → kLandsOf K c (i + 1) = kLandsOf K c i ||| 1 <<< kLand K i := fun z => by rw [kLandsOf, if_pos z]
      have hs0 : c.testBit i = false → kLandsOf K c (i + 1) = kLandsOf K c i ||| 0 := fun z => by rw [kLandsOf, if_neg (by rw [z]; exact Bool.false_ne_true)]
      refine G.iload_n3 dX6_landsOf_4 ?_
      refine G.aload_n0 dX6_landsOf_5 ?_
      refine G.mcall (f' := fX6_people) q1938 ck_X6_people (c_X6_people E L _ ph) dX6_landsOf_6 (rI.k fun r_6 M_6 h_6 => ?_)
      obtain ⟨e_6, h_6⟩ := h_6; replace e_6 := e_6.symm; replace h_6 := h_6.symm; subst e_6; subst h_6
      rw [e, hK.1.2]
      refine G.icmp_ge (tgt := 40) dX6_landsOf_9 (by decide) (fun c_9 => ?_) (fun c_9 => ?_)
      · exact absurd ((nI_leI (by omega) (by omega)).mp c_9) (by omega)
      · refine G.iload_n2 dX6_landsOf_12 ?_
        refine G.iload_n1 dX6_landsOf_13 ?_
        refine G.iload_n3 dX6_landsOf_14 ?_
        refine G.scall (f' := fX6_isIn) q2211 ck_X6_isIn (c_isIn E c i (by omega) (by omega)) dX6_landsOf_15 (sI.k fun r_15 h_15 => ?_)
        replace h_15 := h_15.symm; subst h_15
        refine G.ifb_eq (tgt := 31) dX6_landsOf_18 (by decide) (fun c_18 => ?_) (fun c_18 => ?_)
        · refine G.iconst (v := nI 0) dX6_landsOf_31 (by decide) ?_
          refine G.ior dX6_landsOf_32 ?_
          first | rw [b_or (a := kLandsOf K c i) (b := 1 <<< kLand K i) (by omega) (by omega)] | rw [b_or (a := kLandsOf K c i) (b := 0) (by omega) (by omega)]
          refine G.istore_n2 dX6_landsOf_33 ?_
          refine G.iinc3 dX6_landsOf_34 ?_
          try rw [show ∀ a : Nat, nI a + Int32.ofInt 1 = nI (a + 1) from fun a => nI_add a 1]
          refine G.goto (tgt := 4) dX6_landsOf_37 (by decide) ?_
          first
          | (rw [hs1 c_18] at hgo
             exact hgo)
          | (rw [hs0 c_18] at hgo
             exact hgo)
        · refine G.iconst (v := nI 1) dX6_landsOf_21 (by decide) ?_
          refine G.aload_n0 dX6_landsOf_22 ?_
          refine G.iload_n3 dX6_landsOf_23 ?_
          refine G.mcall (f' := fX6_landOf) q1962 ck_X6_landOf (c_X6_landOf E L _ ph (k := i) (by omega)) dX6_landsOf_24 (rI.k fun r_24 M_24 h_24 => ?_)
          obtain ⟨e_24, h_24⟩ := h_24; replace e_24 := e_24.symm; replace h_24 := h_24.symm; subst e_24; subst h_24
          rw [e, hld.1]
          refine G.ishl dX6_landsOf_27 ?_
          rw [b_shl (by omega)]
          refine G.goto (tgt := 32) dX6_landsOf_28 (by decide) ?_
          refine G.ior dX6_landsOf_32 ?_
          first | rw [b_or (a := kLandsOf K c i) (b := 1 <<< kLand K i) (by omega) (by omega)] | rw [b_or (a := kLandsOf K c i) (b := 0) (by omega) (by omega)]
          refine G.istore_n2 dX6_landsOf_33 ?_
          refine G.iinc3 dX6_landsOf_34 ?_
          try rw [show ∀ a : Nat, nI a + Int32.ofInt 1 = nI (a + 1) from fun a => nI_add a 1]
          refine G.goto (tgt := 4) dX6_landsOf_37 (by decide) ?_
          first
          | (rw [hs1 c_18] at hgo
             exact hgo)
          | (rw [hs0 c_18] at hgo
             exact hgo)
  refine G.iconst (v := nI 0) dX6_landsOf_0 (by decide) ?_
  refine G.istore_n2 dX6_landsOf_1 ?_
  refine G.iconst (v := nI 0) dX6_landsOf_2 (by decide) ?_
  refine G.istore_n3 dX6_landsOf_3 ?_
  exact loop n 0 (by omega)
theorem c_X6_turnBehind {M : MM} {K : KR} (e : M.2.2.1 2 = K) {b n : Nat} (hK : KOk K b n) (hN : nOk K n 0 0 M) {k u la c : Nat} (hk : k < 11) (hu : u < 1024) (hla : la < 16) (hc : c < 1024) : MC E fX6_turnBehind L M ph [.int (nI k), .int (nI u), .int (nI la), .int (nI c)] (rI fun r M' => r = oI (zNext (zTk K n k u la) c) ∧ nOk K n 0 0 M' ∧ M'.2.2.1 2 = K ∧ mX [8, 22, 23, 24] [25, 31, 32] M M') := by
  refine Ct.of [some (.ref (L.1 52)), some (.int (nI k)), some (.int (nI u)), some (.int (nI la)), some (.int (nI c)), none] rfl (Nat.le_of_ble_eq_true rfl) (show plainName RX6 = true by decide +kernel) rfl ?_
  have loop : ∀ d a (M2 : MM), a + d = 1023 → c ≤ a → M2.2.2.1 2 = K → nOk K n 0 0 M2 → mX [8, 22, 23, 24] [25, 31, 32] M M2 → (∀ i, c < i → i ≤ a → (zOk K n 0 0 k u i && decide (kLandsOf K i n &&& la = 0)) = false) → G E fX6_turnBehind (mFin E fX6_turnBehind L ph (rI fun r M' => r = oI (zNext (zTk K n k u la) c) ∧ nOk K n 0 0 M' ∧ M'.2.2.1 2 = K ∧ mX [8, 22, 23, 24] [25, 31, 32] M M')) 10 [some (.ref (L.1 52)), some (.int (nI k)), some (.int (nI u)), some (.int (nI la)), some (.int (nI c)), some (.int (oI (zNext (zOk K n 0 0 k u) a)))] [] (movl L M2 ph) 0 0 := by
    intro d
    induction d using Nat.strongRecOn with
    | ind d ihd =>
      intro a M2 had hca e2 hN2 hx2 hno
      have hsm : ∀ j, zNext (zOk K n 0 0 k u) a = some j → j < 1024 := fun j z => (zNext_some z).2.1
      have hgo := fun j M3 hj => ihd (1023 - j) hj j M3
      clear ihd
      cases hz : zNext (zOk K n 0 0 k u) a with
      | none =>
        have hzz : zNext (zTk K n k u la) c = none := zNext_subn hz hno
        refine G.iload5 dX6_turnBehind_10 ?_
        refine G.iconst (v := -1) dX6_turnBehind_12 (by decide) ?_
        refine G.icmp_eq (tgt := 40) dX6_turnBehind_13 (by decide) (fun c_13 => ?_) (fun c_13 => absurd c_13 (by exact fun z => z rfl))
        refine G.iload5 dX6_turnBehind_40 ?_
        refine G.ireturn dX6_turnBehind_42 ?_
        exact ⟨_, rfl, _, rfl, by rw [hzz], hN2, e2, hx2⟩
      | some j =>
        obtain ⟨hj1, hj2, -, -⟩ := zNext_some hz
        obtain ⟨hA, hB⟩ := zNext_sub hca hz hno
        have hlt := kLandsOf_lt (c := j) hK n (Nat.le_refl n)
        have hne : ¬ nI j = -1 := fun z => by rw [i_eq, t_nI (by omega), t_m1] at z; omega
        have hand : kLandsOf K j n &&& la ≤ kLandsOf K j n := Nat.and_le_left
        refine G.iload5 dX6_turnBehind_10 ?_
        refine G.iconst (v := -1) dX6_turnBehind_12 (by decide) ?_
        refine G.icmp_eq (tgt := 40) dX6_turnBehind_13 (by decide) (fun c_13 => absurd c_13 (by exact hne)) (fun c_13 => ?_)
        refine G.aload_n0 dX6_turnBehind_16 ?_
        refine G.iload5 dX6_turnBehind_17 ?_
        refine G.mcall (f' := fX6_landsOf) q2316 ck_X6_landsOf (c_X6_landsOf e2 hK hj2) dX6_turnBehind_19 (rI.k fun r_19 M_19 h_19 => ?_)
        obtain ⟨e_19, h_19⟩ := h_19; replace e_19 := e_19.symm; replace h_19 := h_19.symm; subst e_19; subst h_19
        refine G.iload_n3 dX6_turnBehind_22 ?_
        refine G.iand dX6_turnBehind_23 ?_
        rw [b_and (by omega) (by omega)]
        refine G.if_eq (tgt := 40) dX6_turnBehind_24 (by decide) (fun c_24 => ?_) (fun c_24 => ?_)
        · have n_24 : kLandsOf K j n &&& la = 0 := (nI_inj (a := kLandsOf K j n &&& la) (b := 0) (by omega) (by omega)).mp c_24
          refine G.iload5 dX6_turnBehind_40 ?_
          refine G.ireturn dX6_turnBehind_42 ?_
          exact ⟨_, rfl, _, rfl, by rw [show zNext (zTk K n k u la) c = some j from hA (decide_eq_true n_24)], hN2, e2, hx2⟩
        · have n_24 : ¬ kLandsOf K j n &&& la = 0 := fun z => c_24 (congrArg nI z)
          refine G.aload_n0 dX6_turnBehind_27 ?_
          refine G.iload_n1 dX6_turnBehind_28 ?_
          refine G.iload_n2 dX6_turnBehind_29 ?_
          refine G.iload5 dX6_turnBehind_30 ?_
          refine G.mcall (f' := fX6_crewIn) q2256 ck_X6_crewIn (c_crewInK e2 hK hN2 (by decide) (by decide) (night := k) (c := j) hk hu hj2) dX6_turnBehind_32 (rI.k fun r_32 M_32 h_32 => ?_)
          have r32 := h_32.1
          have q1 := h_32.2.1
          have q2 := h_32.2.2
          clear h_32
          rw [r32]
          refine G.istore5 dX6_turnBehind_35 ?_
          refine G.goto (tgt := 10) dX6_turnBehind_37 (by decide) ?_
          exact hgo j M_32 (by omega) (by omega) (by omega) ((q2.2.2.1 2 (by decide)).trans e2) q1 (hx2.tr q2 (by simp) (by simp)) (hB (decide_eq_false n_24))
  refine G.aload_n0 dX6_turnBehind_0 ?_
  refine G.iload_n1 dX6_turnBehind_1 ?_
  refine G.iload_n2 dX6_turnBehind_2 ?_
  refine G.iload4 dX6_turnBehind_3 ?_
  refine G.mcall (f' := fX6_crewIn) q2256 ck_X6_crewIn (c_crewInK e hK hN (by decide) (by decide) (night := k) (c := c) hk hu hc) dX6_turnBehind_5 (rI.k fun r_5 M_5 h_5 => ?_)
  have r5 := h_5.1
  have q1 := h_5.2.1
  have q2 := h_5.2.2
  clear h_5
  rw [r5]
  refine G.istore5 dX6_turnBehind_8 ?_
  exact loop (1023 - c) c M_5 (by omega) (Nat.le_refl c) ((q2.2.2.1 2 (by decide)).trans e) q1 q2 (fun i h1 h2 => absurd h1 (by omega))
def tOk (K : KR) (n : Nat) (T : Nat → Int32) : Prop := ∀ k u la, k < 11 → u < 1024 → la < 16 → T ((1024 * k + u) * 16 + la) = -1 ∨ T ((1024 * k + u) * 16 + la) = nI (tnN K n (11 - k) k u la)
theorem zTk_0 {K : KR} {n k u la : Nat} : zTk K n k u la 0 = false := by
  unfold zTk
  rw [zOk_0, Bool.false_and]
theorem c_X6_turnsFrom {K : KR} {b n : Nat} (hK : KOk K b n) : ∀ f k, k + f = 11 → ∀ (M : MM) (u la : Nat), M.2.2.1 2 = K → nOk K n 0 0 M → tOk K n (M.2.2.1 40) → u < 1024 → la < 16 → MC E (fX6_turnsFrom (900 + f)) L M ph [.int (nI k), .int (nI u), .int (nI la)] (rI fun r M' => r = nI (tnN K n f k u la) ∧ nOk K n 0 0 M' ∧ tOk K n (M'.2.2.1 40) ∧ mX [8, 22, 23, 24] [25, 31, 32, 40] M M') := by
  intro f
  induction f with
  | zero =>
    intro k hk M u la e hN hl hu hla
    refine Ct.of [some (.ref (L.1 52)), some (.int (nI k)), some (.int (nI u)), some (.int (nI la)), none, none, none, none] rfl (Nat.le_of_ble_eq_true rfl) (show plainName RX6 = true by decide +kernel) rfl ?_
    refine G.iload_n1 dX6_turnsFrom_0 ?_
    refine G.bipush (v := nI 10) dX6_turnsFrom_1 (by decide) ?_
    refine G.icmp_le (tgt := 8) dX6_turnsFrom_3 (by decide) (fun c_3 => ?_) (fun c_3 => ?_)
    · exact absurd ((nI_leI (by omega) (by omega)).mp c_3) (by omega)
    · refine G.iconst (v := nI 0) dX6_turnsFrom_6 (by decide) ?_
      refine G.ireturn dX6_turnsFrom_7 ?_
      exact ⟨_, rfl, _, rfl, rfl, hN, hl, mX.rf⟩
  | succ f ih =>
    intro k hk M u la e hN hl hu hla
    refine Ct.of [some (.ref (L.1 52)), some (.int (nI k)), some (.int (nI u)), some (.int (nI la)), none, none, none, none] rfl (Nat.le_of_ble_eq_true rfl) (show plainName RX6 = true by decide +kernel) rfl ?_
    have hv := hl k u la (by omega) hu hla
    rw [show 11 - k = f + 1 from by omega] at hv
    have loop : ∀ d c (M2 : MM) (a7 : Option Value), c + d = 1023 → M2.2.2.1 2 = K → nOk K n 0 0 M2 → tOk K n (M2.2.2.1 40) → mX [8, 22, 23, 24] [25, 31, 32, 40] M M2 → G E (fX6_turnsFrom (900 + (f + 1))) (mFin E (fX6_turnsFrom (900 + (f + 1))) L ph (rI fun r M' => r = nI (tnN K n (f + 1) k u la) ∧ nOk K n 0 0 M' ∧ tOk K n (M'.2.2.1 40) ∧ mX [8, 22, 23, 24] [25, 31, 32, 40] M M')) 54 [some (.ref (L.1 52)), some (.int (nI k)), some (.int (nI u)), some (.int (nI la)), some (.int (nI ((1024 * k + u) * 16 + la))), some (.int (nI (zF (zTk K n k u la) (fun best c => max best (1 + tnN K n f (k + 1) (u ||| c) (kLandsOf K c n))) 0 (c + 1)))), some (.int (oI (zNext (zTk K n k u la) c))), a7] [] (movl L M2 ph) 0 0 := by
      intro d
      induction d using Nat.strongRecOn with
      | ind d ihd =>
        intro c M2 a7 hcd e2 hN2 hl2 hx2
        have hbest : ∀ j, zF (zTk K n k u la) (fun best c => max best (1 + tnN K n f (k + 1) (u ||| c) (kLandsOf K c n))) 0 j ≤ f + 1 := by
          refine zF_inv (fun x => x ≤ f + 1) (by omega) (fun x c hx => ?_)
          have := tnN_le (K := K) (n := n) f (k + 1) (u ||| c) (kLandsOf K c n)
          omega
        have hb1 := hbest (c + 1)
        have hsm : ∀ j, zNext (zTk K n k u la) c = some j → j < 1024 := fun j z => (zNext_some z).2.1
        refine G.iload6 dX6_turnsFrom_54 ?_
        refine G.iconst (v := -1) dX6_turnsFrom_56 (by decide) ?_
        refine G.icmp_eq (tgt := 111) dX6_turnsFrom_57 (by decide) (fun c_57 => ?_) (fun c_57 => ?_)
        · have hz := (oI_m1 hsm).mp c_57
          have hend := zF_end (step := (fun best c => max best (1 + tnN K n f (k + 1) (u ||| c) (kLandsOf K c n)))) (a := 0) hz (by omega)
          rw [← hend]
          have hb2 := hbest 1024
          refine G.aload_n0 dX6_turnsFrom_111 ?_
          refine G.mgeta 40 fl_X6_97 dX6_turnsFrom_112 ?_
          refine G.iload4 dX6_turnsFrom_115 ?_
          refine G.iload5 dX6_turnsFrom_117 ?_
          refine G.i2b dX6_turnsFrom_119 rfl ?_
          rw [byte_s (by omega)]
          refine G.mbast (n := 180224) 40 ((1024 * k + u) * 16 + la) dX6_turnsFrom_120 rfl (by omega) ?_
          rw [byte_s (by omega)]
          refine G.iload5 dX6_turnsFrom_121 ?_
          refine G.ireturn dX6_turnsFrom_123 ?_
          refine ⟨_, rfl, _, rfl, rfl, hN2.mv (mX.rf.ma (by decide)), ?_, hx2.ma (by decide)⟩
          intro k' u' la' h1 h2 h3
          rw [ma_at, if_pos rfl]
          split
          · rename_i q
            obtain ⟨rfl, rfl, rfl⟩ : k' = k ∧ u' = u ∧ la' = la := by omega
            rw [show 11 - k' = f + 1 from by omega]
            exact Or.inr rfl
          · exact hl2 k' u' la' h1 h2 h3
        · obtain ⟨j, hz⟩ : ∃ j, zNext (zTk K n k u la) c = some j := by
            cases h9 : zNext (zTk K n k u la) c with
            | none => rw [h9] at c_57; exact absurd rfl c_57
            | some j => exact ⟨j, rfl⟩
          obtain ⟨hj1, hj2, -, -⟩ := zNext_some hz
          rw [hz, show oI (some j) = nI j from rfl]
          have hnext := zF_next (step := (fun best c => max best (1 + tnN K n f (k + 1) (u ||| c) (kLandsOf K c n)))) (a := 0) hz
          have huj := or_lt hu hj2
          have hlt := kLandsOf_lt (c := j) hK n (Nat.le_refl n)
          have hlg := tnN_le (K := K) (n := n) f (k + 1) (u ||| j) (kLandsOf K j n)
          refine G.iconst (v := nI 1) dX6_turnsFrom_60 (by decide) ?_
          refine G.aload_n0 dX6_turnsFrom_61 ?_
          refine G.iload_n1 dX6_turnsFrom_62 ?_
          refine G.iconst (v := nI 1) dX6_turnsFrom_63 (by decide) ?_
          first | with_reducible refine G.iaddn dX6_turnsFrom_64 ?_ | refine G.iadd dX6_turnsFrom_64 ?_
          refine G.iload_n2 dX6_turnsFrom_65 ?_
          refine G.iload6 dX6_turnsFrom_66 ?_
          refine G.ior dX6_turnsFrom_68 ?_
          rw [b_or (by omega) (by omega)]
          refine G.aload_n0 dX6_turnsFrom_69 ?_
          refine G.iload6 dX6_turnsFrom_70 ?_
          refine G.mcall (f' := fX6_landsOf) q2316 ck_X6_landsOf (c_X6_landsOf e2 hK hj2) dX6_turnsFrom_72 (rI.k fun r_72 M_72 h_72 => ?_) (hroom := jroom_of rfl rfl (by omega) (Nat.le_of_ble_eq_true rfl))
          obtain ⟨e_72, h_72⟩ := h_72; replace e_72 := e_72.symm; replace h_72 := h_72.symm; subst e_72; subst h_72
          refine G.mcall (f' := fX6_turnsFrom (900 + f)) q2308 (ck_X6_turnsFrom _) (ih (k + 1) (by omega) M2 (u ||| j) (kLandsOf K j n) e2 hN2 hl2 huj hlt) dX6_turnsFrom_75 (rI.k fun r_75 M_75 h_75 => ?_) (hroom := jroom_of rfl rfl (by omega) (Nat.le_of_ble_eq_true rfl))
          have r75 := h_75.1
          have g1 := h_75.2.1
          have g2 := h_75.2.2.1
          have g3 := h_75.2.2.2
          clear h_75
          rw [r75]
          have e3 : M_75.2.2.1 2 = K := (g3.2.2.1 2 (by decide)).trans e2
          have hx3 : mX [8, 22, 23, 24] [25, 31, 32, 40] M M_75 := hx2.tr g3 (by simp) (by simp)
          first | with_reducible refine G.iaddn dX6_turnsFrom_78 ?_ | refine G.iadd dX6_turnsFrom_78 ?_
          refine G.istore7 dX6_turnsFrom_79 ?_
          refine G.iload7 dX6_turnsFrom_81 ?_
          refine G.iload5 dX6_turnsFrom_83 ?_
          refine G.icmp_le (tgt := 93) dX6_turnsFrom_85 (by decide) (fun c_85 => ?_) (fun c_85 => ?_)
          · have n_85 : 1 + tnN K n f (k + 1) (u ||| j) (kLandsOf K j n) ≤ zF (zTk K n k u la) (fun best c => max best (1 + tnN K n f (k + 1) (u ||| c) (kLandsOf K c n))) 0 (c + 1) := (nI_leI (a := 1 + tnN K n f (k + 1) (u ||| j) (kLandsOf K j n)) (b := zF (zTk K n k u la) (fun best c => max best (1 + tnN K n f (k + 1) (u ||| c) (kLandsOf K c n))) 0 (c + 1)) (by omega) (by omega)).mp c_85
            refine G.iload5 dX6_turnsFrom_93 ?_
            refine G.istore5 dX6_turnsFrom_95 ?_
            refine G.aload_n0 dX6_turnsFrom_97 ?_
            refine G.iload_n1 dX6_turnsFrom_98 ?_
            refine G.iload_n2 dX6_turnsFrom_99 ?_
            refine G.iload_n3 dX6_turnsFrom_100 ?_
            refine G.iload6 dX6_turnsFrom_101 ?_
            refine G.mcall (f' := fX6_turnBehind) q2312 ck_X6_turnBehind (c_X6_turnBehind e3 hK g1 (k := k) (c := j) (by omega) hu hla hj2) dX6_turnsFrom_103 (rI.k fun r_103 M_103 h_103 => ?_) (hroom := jroom_of rfl rfl (by omega) (Nat.le_of_ble_eq_true rfl))
            have r103 := h_103.1
            have q1 := h_103.2.1
            have q3 := h_103.2.2.1
            have q2 := h_103.2.2.2
            clear h_103
            rw [r103]
            have hgo := fun a7 => ihd (1023 - j) (by omega) j M_103 a7 (by omega) q3 q1 (by rw [q2.2.2.1 40 (by decide)]; exact g2) (hx3.tr q2 (by simp) (by simp))
            rw [hnext] at hgo
            refine G.istore6 dX6_turnsFrom_106 ?_
            refine G.goto (tgt := 54) dX6_turnsFrom_108 (by decide) ?_
            first
            | (rw [Nat.max_eq_left (by omega)] at hgo; exact hgo _)
            | (rw [Nat.max_eq_right (by omega)] at hgo; exact hgo _)
          · have n_85 : zF (zTk K n k u la) (fun best c => max best (1 + tnN K n f (k + 1) (u ||| c) (kLandsOf K c n))) 0 (c + 1) < 1 + tnN K n f (k + 1) (u ||| j) (kLandsOf K j n) := Nat.lt_of_not_le (fun z => c_85 ((nI_leI (a := 1 + tnN K n f (k + 1) (u ||| j) (kLandsOf K j n)) (b := zF (zTk K n k u la) (fun best c => max best (1 + tnN K n f (k + 1) (u ||| c) (kLandsOf K c n))) 0 (c + 1)) (by omega) (by omega)).mpr z))
            refine G.iload7 dX6_turnsFrom_88 ?_
            refine G.goto (tgt := 95) dX6_turnsFrom_90 (by decide) ?_
            refine G.istore5 dX6_turnsFrom_95 ?_
            refine G.aload_n0 dX6_turnsFrom_97 ?_
            refine G.iload_n1 dX6_turnsFrom_98 ?_
            refine G.iload_n2 dX6_turnsFrom_99 ?_
            refine G.iload_n3 dX6_turnsFrom_100 ?_
            refine G.iload6 dX6_turnsFrom_101 ?_
            refine G.mcall (f' := fX6_turnBehind) q2312 ck_X6_turnBehind (c_X6_turnBehind e3 hK g1 (k := k) (c := j) (by omega) hu hla hj2) dX6_turnsFrom_103 (rI.k fun r_103 M_103 h_103 => ?_) (hroom := jroom_of rfl rfl (by omega) (Nat.le_of_ble_eq_true rfl))
            have r103 := h_103.1
            have q1 := h_103.2.1
            have q3 := h_103.2.2.1
            have q2 := h_103.2.2.2
            clear h_103
            rw [r103]
            have hgo := fun a7 => ihd (1023 - j) (by omega) j M_103 a7 (by omega) q3 q1 (by rw [q2.2.2.1 40 (by decide)]; exact g2) (hx3.tr q2 (by simp) (by simp))
            rw [hnext] at hgo
            refine G.istore6 dX6_turnsFrom_106 ?_
            refine G.goto (tgt := 54) dX6_turnsFrom_108 (by decide) ?_
            first
            | (rw [Nat.max_eq_left (by omega)] at hgo; exact hgo _)
            | (rw [Nat.max_eq_right (by omega)] at hgo; exact hgo _)
    refine G.iload_n1 dX6_turnsFrom_0 ?_
    refine G.bipush (v := nI 10) dX6_turnsFrom_1 (by decide) ?_
    refine G.icmp_le (tgt := 8) dX6_turnsFrom_3 (by decide) (fun c_3 => ?_) (fun c_3 => ?_)
    · refine G.sipush (v := nI 1024) dX6_turnsFrom_8 (by decide) ?_
      refine G.iload_n1 dX6_turnsFrom_11 ?_
      first | with_reducible refine G.imuln dX6_turnsFrom_12 ?_ | refine G.imul dX6_turnsFrom_12 ?_
      refine G.iload_n2 dX6_turnsFrom_13 ?_
      first | with_reducible refine G.iaddn dX6_turnsFrom_14 ?_ | refine G.iadd dX6_turnsFrom_14 ?_
      refine G.bipush (v := nI 16) dX6_turnsFrom_15 (by decide) ?_
      first | with_reducible refine G.imuln dX6_turnsFrom_17 ?_ | refine G.imul dX6_turnsFrom_17 ?_
      refine G.iload_n3 dX6_turnsFrom_18 ?_
      first | with_reducible refine G.iaddn dX6_turnsFrom_19 ?_ | refine G.iadd dX6_turnsFrom_19 ?_
      refine G.istore4 dX6_turnsFrom_20 ?_
      refine G.aload_n0 dX6_turnsFrom_22 ?_
      refine G.mgeta 40 fl_X6_97 dX6_turnsFrom_23 ?_
      refine G.iload4 dX6_turnsFrom_26 ?_
      refine G.mbald (n := 180224) 40 ((1024 * k + u) * 16 + la) dX6_turnsFrom_28 rfl (by omega) ?_
      refine G.iconst (v := -1) dX6_turnsFrom_29 (by decide) ?_
      refine G.icmp_eq (tgt := 41) dX6_turnsFrom_30 (by decide) (fun c_30 => ?_) (fun c_30 => ?_)
      · refine G.iconst (v := nI 0) dX6_turnsFrom_41 (by decide) ?_
        refine G.istore5 dX6_turnsFrom_42 ?_
        refine G.aload_n0 dX6_turnsFrom_44 ?_
        refine G.iload_n1 dX6_turnsFrom_45 ?_
        refine G.iload_n2 dX6_turnsFrom_46 ?_
        refine G.iload_n3 dX6_turnsFrom_47 ?_
        refine G.iconst (v := nI 0) dX6_turnsFrom_48 (by decide) ?_
        refine G.mcall (f' := fX6_turnBehind) q2312 ck_X6_turnBehind (c_X6_turnBehind e hK hN (k := k) (c := 0) (by omega) hu hla (by omega)) dX6_turnsFrom_49 (rI.k fun r_49 M_49 h_49 => ?_) (hroom := jroom_of rfl rfl (by omega) (Nat.le_of_ble_eq_true rfl))
        have r49 := h_49.1
        have q1 := h_49.2.1
        have q3 := h_49.2.2.1
        have q2 := h_49.2.2.2
        clear h_49
        rw [r49]
        refine G.istore6 dX6_turnsFrom_52 ?_
        have := loop 1023 0 M_49 none (by omega) q3 q1 (by rw [q2.2.2.1 40 (by decide)]; exact hl) (q2.mono (by simp) (by simp))
        rw [zF_1 zTk_0] at this
        exact this
      · refine G.aload_n0 dX6_turnsFrom_33 ?_
        refine G.mgeta 40 fl_X6_97 dX6_turnsFrom_34 ?_
        refine G.iload4 dX6_turnsFrom_37 ?_
        refine G.mbald (n := 180224) 40 ((1024 * k + u) * 16 + la) dX6_turnsFrom_39 rfl (by omega) ?_
        refine G.ireturn dX6_turnsFrom_40 ?_
        exact ⟨_, rfl, _, rfl, hv.resolve_left c_30, hN, hl, mX.rf⟩
    · exact absurd ((nI_leI (by omega) (by omega)).mpr (by omega)) c_3
end Turns
