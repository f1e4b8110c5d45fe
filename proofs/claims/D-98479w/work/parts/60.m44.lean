/-! ORDERS, whole: from the tape to the end -/
def en0 : En := (fun _ => 0, fun _ => 0, fun _ => 0)
theorem en0_ok : enOk en0 := by
  intro i
  have e0 : (0 : Int64).toInt = 0 := by decide
  refine ⟨?_, ?_, ?_⟩ <;> (show _ ≤ (0 : Int64).toInt ∧ (0 : Int64).toInt ≤ _; rw [e0]; omega)
theorem pOrdCl_N {tk : Tk} {N pos lv : Nat} {c : Cl} {pc lc : Nat} (htk : tkOk tk N) (hP : pOrdCl tk pos lv = .inr (c, pc, lc)) : pos < N ∧ pc ≤ N := by
  obtain ⟨h, s, p1, l1, hh1, hh2, hpos, hs, hT⟩ := pOrdCl_of hP
  have hposN : pos < N := tk_in htk (by omega) (by omega) hpos
  have hp1 : p1 ≤ N := by
    rcases hs with ⟨-, -, q, -⟩ | ⟨-, s1, -, q⟩
    · omega
    · exact (pSum_Q htk en0_ok 8 _ _ _ _ _ q).2.2
  refine ⟨hposN, ?_⟩
  have hif : ∀ p2 n, p2 ≤ N → pIf true tk h s n p2 l1 = .inr (c, pc, lc) → pc ≤ N := by
    intro p2 n h2 q
    rcases pIf_of q with ⟨-, t, q2, -⟩ | ⟨-, -, q2, -⟩
    · exact (pTest_Q htk en0_ok 8 _ _ _ _ _ q2).2.2
    · omega
  rcases pTimes_of hT with ⟨-, q1, -, q⟩ | ⟨-, q⟩
  · exact hif _ _ (tk_in htk (by decide) (by decide) q1) q
  · exact hif _ _ hp1 q
theorem bOk_ext6 {ord : Bool} {K K' : KR} {i : Nat} (h1 : ∀ j, j < 265 → K' j = K j) (h2 : ∀ j, 266 ≤ j → (j < 2666 ∨ (3066 ≤ j ∧ j < 5466)) → K' j = K j) (hi : i < 6) (h : bOk ord K i) : bOk ord K' i := by
  have e1 : K' (259 + i) = K (259 + i) := h1 _ (by omega)
  have eS : kS K' i = kS K i := by unfold kS; rw [e1]
  have h400 := h.1
  have eT : bTk K' (400 * i) (kS K i) = bTk K (400 * i) (kS K i) := by
    unfold bTk
    refine Prod.ext (funext fun j => ?_) (funext fun j => ?_)
    · show (if j < kS K i then _ else _) = (if j < kS K i then _ else _)
      split
      · exact h2 _ (by omega) (by omega)
      · rfl
    · show (if j < kS K i then _ else _) = (if j < kS K i then _ else _)
      split
      · exact h2 _ (by omega) (by omega)
      · rfl
  unfold bOk
  rw [eS, eT, e1]
  exact h
/-- a text laid in the last block tells nothing of the rest -/
theorem KOk_lay {K K' : KR} {b n : Nat} (h : KOk K b n) (h1 : ∀ i, i < 265 → K' i = K i) (h2 : ∀ i, 266 ≤ i → (i < 2666 ∨ (3066 ≤ i ∧ i < 5466)) → K' i = K i) : KOk K' b n := by
  obtain ⟨g1, g2, g3, g4, g5, g6, g7, t, g8, g9, g10, g11⟩ := h
  have h10 := g1.1
  refine ⟨⟨g1.1, by rw [h1 _ (by omega)]; exact g1.2⟩, fun p q => ?_, ?_, ?_, fun d q => ?_, by rw [h1 _ (by omega)]; exact g6, by rw [h1 _ (by omega)]; exact g7, t, g8, by rw [h1 _ (by omega)]; exact g9, by rw [h1 _ (by omega)]; exact g10, fun i hi => bOk_ext6 (fun j hj => h1 j (by omega)) h2 (by omega) (g11 i hi)⟩
  · have := g2 p q
    unfold kPer at *
    rw [h1 _ (by omega), h1 _ (by omega), h1 _ (by omega), h1 _ (by omega), h1 _ (by omega)]
    exact this
  · exact kNum_ext (fun j hj => h1 j (by omega)) g3
  · obtain ⟨T, t1, t2⟩ := g4
    exact ⟨T, fun p q hp hq => by rw [h1 _ (by omega)]; exact t1 p q hp hq, t2⟩
  · rw [h1 _ (by omega)]; exact g5 d q
section Orders
variable {E : JE} {L : ML} {ph : HP}
theorem orders_loop {M : MM} {n N u b : Nat} {tk : Tk} {s0 : St} {cs : List (Nat × Cl)} {p l : Nat} {P : Int32 → MM → Prop} (hN : N ≤ 400) (htk : tkOk tk N) (hb : b + 600 ≤ 1000000) (hu : s0.2.2 = u) (hNp : N ≤ p) (ht1 : ∀ i, i < N → s0.1 (266 + (2400 + i)) = tk.1 i) (ht2 : ∀ i, i < N → s0.1 (3066 + (2400 + i)) = tk.2 i) (ha : ∀ k, k < 34 → M.2.2.1 5 k = s0.1 k) (hl : ∀ k, k < 560 → M.2.2.1 27 k = s0.2.1 k)
    (hdone : ∀ s d M', runO n (cs.map (fun c => c.2)) 0 s0 0 = .inr (s, d) → mQ (ms (put M s) 0 (nI 0)) M' → P (nI d) M')
    (hfail : ∀ i s' M', runO n (cs.map (fun c => c.2)) 0 s0 0 = .inl i → far s' s0 → mQ (sRef (ms (put M (cpA s'.1 s0.1 0 34, cpA s'.2.1 s0.2.1 0 560, u)) 41 (nI i)) 3) M' → P (-nI 3) M') :
    ∀ k acc pos lv s done M2 a5, acc.length + k = 12 → pCls true tk k acc pos lv = .inr (cs, p, l) → (∀ rest, cs = acc ++ rest → runO n (cs.map (fun c => c.2)) 0 s0 0 = runO n (rest.map (fun c => c.2)) acc.length s done) → stOk s (b + 40 * acc.length) n → done ≤ 20 * acc.length → far s s0 → mQ (put M s) M2 → M2.1 42 = nI done → M2.1 43 = nI (2400 + pos) → G E fX6_orders (mFin E fX6_orders L ph (rI P)) 112 [some (.ref (L.1 52)), some (.int (nI u)), some (.int (nI (2400 + N))), some (.int (nI acc.length)), a5] [] (movl L M2 ph) 0 0 := by
  intro k
  induction k with
  | zero => intro acc pos lv s done M2 a5 h1 h2; simp [pCls] at h2
  | succ k ih =>
    intro acc pos lv s done M2 a5 h1 h2 hrest hs hd hfar hM h42 h43
    obtain ⟨c, pc, lc, hc, hcont⟩ := pCls_on h2
    replace hc : pOrdCl tk pos lv = .inr (c, pc, lc) := hc
    obtain ⟨hpN, hpcN⟩ := pOrdCl_N htk hc
    obtain ⟨hh, hsu, p1, l1, -, -, -, -, hT⟩ := pOrdCl_of hc
    obtain ⟨-, -, kt, hk1, hk2, hkt⟩ := pOrd_c (pos := pos) (lv := lv) hT
    have hcs : ∃ rest, cs = acc ++ (pos, c) :: rest := by
      rcases hcont with ⟨-, q2⟩ | ⟨-, q2, -⟩
      · obtain ⟨r, hr⟩ := pCls_pre q2
        exact ⟨r, by rw [hr, List.append_assoc]; rfl⟩
      · exact ⟨[], q2⟩
    obtain ⟨rest, hcs⟩ := hcs
    have hrun := hrest _ hcs
    rw [List.map_cons, runO] at hrun
    dsimp only at hrun
    have k12 : acc.length ≤ 11 := by omega
    refine G.aload_n0 dX6_orders_112 ?_
    refine G.mgeti 43 fl_X6_414 dX6_orders_113 ?_
    rw [h43]
    refine G.iload_n2 dX6_orders_116 ?_
    refine G.icmp_ge (tgt := 215) dX6_orders_117 (by decide) (fun c_117 => ?_) (fun c_117 => ?_)
    · exact absurd ((nI_leI (by omega) (by omega)).mp c_117) (by omega)
    · refine G.aload_n0 dX6_orders_120 ?_
      refine G.iload_n2 dX6_orders_121 ?_
      refine G.mcall (f' := fX6_runs) q2351 ck_X6_runs (c_X6_runs (M := M) hN htk hc hs (by omega) (by omega) (fun i hi => (hfar.1 _ (by omega)).trans (ht1 i hi)) (fun i hi => (hfar.1 _ (by omega)).trans (ht2 i hi)) hM h42 h43) dX6_orders_122 (rI.k fun r_122 M_122 h_122 => ?_)
      skip
      cases ho : timesO n c (tNat c.2.2.1) s done with
      | none =>
        rw [ho] at h_122 hrun
        obtain ⟨rfl, s', hs1, hs2⟩ := h_122
        refine G.ifb_eq (tgt := 131) dX6_orders_125 (by decide) (fun c_125 => ?_) (fun c_125 => ?_)
        · exact orders_undo hu ha hl hs1 (fun M' hM' => hfail _ s' M' hrun (far_tr hs2 hfar) hM')
        · exact absurd c_125 Bool.false_ne_true
      | some x =>
        rw [ho] at h_122 hrun
        obtain ⟨rfl, hs1, hs2, hs3⟩ := h_122
        dsimp only at hrun
        obtain ⟨t1, t2, t3⟩ := timesO_ok hs ho
        rw [hkt, tNat_nI (by omega)] at t1 t2
        have t1' : stOk x.1 (b + 40 * (acc.length + 1)) n := ⟨KOk_mono t1.1 (by omega), t1.2.1, lfOk_mono t1.2.2 (by omega)⟩
        refine G.ifb_eq (tgt := 131) dX6_orders_125 (by decide) (fun c_125 => ?_) (fun c_125 => ?_)
        · exact absurd c_125 (fun z => Bool.false_ne_true z.symm)
        · refine G.goto (tgt := 209) dX6_orders_128 (by decide) ?_
          refine G.iinc3 dX6_orders_209 ?_
          try rw [show ∀ a : Nat, nI a + Int32.ofInt 1 = nI (a + 1) from fun a => nI_add a 1]
          refine G.goto (tgt := 112) dX6_orders_212 (by decide) ?_
          rcases hcont with ⟨q1, q2⟩ | ⟨q1, q2, q3, -⟩
          · have := ih (acc ++ [(pos, c)]) (pc + 1) lc x.1 x.2 M_122 a5 (by rw [List.length_append, List.length_singleton]; omega) q2 (fun rest2 hr2 => by
              have hr3 : rest = rest2 := by
                rw [hcs, List.append_assoc] at hr2
                exact (List.cons.inj (List.append_cancel_left hr2)).2
              rw [hrun, ← hr3, List.length_append, List.length_singleton]) (by rw [List.length_append, List.length_singleton]; exact t1') (by rw [List.length_append, List.length_singleton]; omega) (far_tr t3 hfar) hs1 hs2 hs3
            rw [List.length_append, List.length_singleton] at this
            exact this
          · have hr0 : rest = [] := by
              rw [hcs] at q2
              exact (List.cons.inj (List.append_cancel_left q2)).2
            rw [hr0] at hrun
            subst q3
            exact orders_end hN hNp (by omega) hs1 hs2 hs3 (fun M' hM' => hdone x.1 x.2 M' hrun hM')
theorem put_is {M : MM} {s : St} (h26 : M.2.2.1 26 = s.2.1) (h28 : M.1 28 = nI s.2.2) : put M s = mar M 2 s.1 := by
  refine Prod.ext (funext fun i => ?_) (Prod.ext rfl (Prod.ext (funext fun i => ?_) rfl))
  · show va_up M.1 28 (nI s.2.2) i = M.1 i
    unfold va_up
    split
    · rename_i q; rw [q, h28]
    · rfl
  · show va_up (va_up M.2.2.1 26 s.2.1) 2 s.1 i = va_up M.2.2.1 2 s.1 i
    unfold va_up
    by_cases q1 : i = 2
    · rw [if_pos q1, if_pos q1]
    · rw [if_neg q1, if_neg q1]
      split
      · rename_i q; rw [q, h26]
      · rfl
theorem mX_mark {fs as : List Nat} {M M' : MM} {k : Nat} {f : Nat → Int32} (h : mX fs as M M') (hk : k ∈ as) : mX fs as M (mar M' k f) := ⟨h.1, h.2.1, fun i hi => (if_neg (fun e => hi (by rw [e]; exact hk))).trans (h.2.2.1 i hi), h.2.2.2⟩
theorem cpA_all {h g : Nat → Int32} {j : Nat} (hf : ∀ i, j ≤ i → h i = g i) : cpA h g 0 j = g := by
  funext i
  rw [cpA_at]
  split
  · rfl
  · exact hf i (by omega)
theorem orders_mid {M7 : MM} {F : JFin} (hgo : ∀ Mc a1, Mc = mar (mar M7 5 (cpA (M7.2.2.1 5) (M7.2.2.1 2) 0 34)) 27 (cpA (M7.2.2.1 27) (M7.2.2.1 26) 0 560) → G E fX6_orders F 73 [some (.ref (L.1 52)), some (.int a1), none, none, none] [] (movl L Mc ph) 0 0) : G E fX6_orders F 20 [some (.ref (L.1 52)), none, none, none, none] [] (movl L M7 ph) 0 0 := by
  have loop2 : ∀ d j, j + d = 560 → G E fX6_orders F 48 [some (.ref (L.1 52)), some (.int (nI j)), none, none, none] [] (movl L (mar (mar M7 5 (cpA (M7.2.2.1 5) (M7.2.2.1 2) 0 34)) 27 (cpA (M7.2.2.1 27) (M7.2.2.1 26) 0 j)) ph) 0 0 := by
    intro d
    induction d with
    | zero =>
      intro j hj
      obtain rfl : j = 560 := by omega
      refine G.iload_n1 dX6_orders_48 ?_
      refine G.sipush (v := nI 560) dX6_orders_49 (by decide) ?_
      refine G.icmp_ge (tgt := 73) dX6_orders_52 (by decide) (fun c_52 => ?_) (fun c_52 => ?_)
      · exact hgo _ _ rfl
      · exact absurd (nI_leI (by omega) (by omega) |>.mpr (by omega)) c_52
    | succ d ih =>
      intro j hj
      refine G.iload_n1 dX6_orders_48 ?_
      refine G.sipush (v := nI 560) dX6_orders_49 (by decide) ?_
      refine G.icmp_ge (tgt := 73) dX6_orders_52 (by decide) (fun c_52 => ?_) (fun c_52 => ?_)
      · exact absurd ((nI_leI (by omega) (by omega)).mp c_52) (by omega)
      · refine G.aload_n0 dX6_orders_55 ?_
        refine G.mgeta 27 fl_X6_65 dX6_orders_56 ?_
        refine G.iload_n1 dX6_orders_59 ?_
        refine G.aload_n0 dX6_orders_60 ?_
        refine G.mgeta 26 fl_X6_62 dX6_orders_61 ?_
        refine G.iload_n1 dX6_orders_64 ?_
        refine G.miald (n := 560) 26 j dX6_orders_65 rfl (by omega) ?_
        rw [show (mar (mar M7 5 (cpA (M7.2.2.1 5) (M7.2.2.1 2) 0 34)) 27 (cpA (M7.2.2.1 27) (M7.2.2.1 26) 0 j)).2.2.1 26 j = M7.2.2.1 26 j from rfl]
        refine G.miast (n := 560) 27 j dX6_orders_66 rfl (by omega) ?_
        rw [ma_mar, show upd (cpA (M7.2.2.1 27) (M7.2.2.1 26) 0 j) j (M7.2.2.1 26 j) = cpA (M7.2.2.1 27) (M7.2.2.1 26) 0 (j + 1) from by
          have := cpA_s (h := M7.2.2.1 27) (g := M7.2.2.1 26) (a := 0) (j := j)
          rw [Nat.zero_add] at this
          exact this]
        refine G.iinc1 dX6_orders_67 ?_
        try rw [show ∀ a : Nat, nI a + Int32.ofInt 1 = nI (a + 1) from fun a => nI_add a 1]
        refine G.goto (tgt := 48) dX6_orders_70 (by decide) ?_
        exact ih (j + 1) (by omega)
  have loop1 : ∀ d j, j + d = 34 → G E fX6_orders F 22 [some (.ref (L.1 52)), some (.int (nI j)), none, none, none] [] (movl L (mar M7 5 (cpA (M7.2.2.1 5) (M7.2.2.1 2) 0 j)) ph) 0 0 := by
    intro d
    induction d with
    | zero =>
      intro j hj
      obtain rfl : j = 34 := by omega
      refine G.iload_n1 dX6_orders_22 ?_
      refine G.bipush (v := nI 34) dX6_orders_23 (by decide) ?_
      refine G.icmp_ge (tgt := 46) dX6_orders_25 (by decide) (fun c_25 => ?_) (fun c_25 => ?_)
      · refine G.iconst (v := nI 0) dX6_orders_46 (by decide) ?_
        refine G.istore_n1 dX6_orders_47 ?_
        have := loop2 560 0 rfl
        rw [cpA_0] at this
        rw [show mar (mar M7 5 (cpA (M7.2.2.1 5) (M7.2.2.1 2) 0 34)) 27 (M7.2.2.1 27) = mar M7 5 (cpA (M7.2.2.1 5) (M7.2.2.1 2) 0 34) from mar_id (M := mar M7 5 (cpA (M7.2.2.1 5) (M7.2.2.1 2) 0 34)) (k := 27)] at this
        exact this
      · exact absurd (nI_leI (by omega) (by omega) |>.mpr (by omega)) c_25
    | succ d ih =>
      intro j hj
      refine G.iload_n1 dX6_orders_22 ?_
      refine G.bipush (v := nI 34) dX6_orders_23 (by decide) ?_
      refine G.icmp_ge (tgt := 46) dX6_orders_25 (by decide) (fun c_25 => ?_) (fun c_25 => ?_)
      · exact absurd ((nI_leI (by omega) (by omega)).mp c_25) (by omega)
      · refine G.aload_n0 dX6_orders_28 ?_
        refine G.mgeta 5 fl_X6_34 dX6_orders_29 ?_
        refine G.iload_n1 dX6_orders_32 ?_
        refine G.aload_n0 dX6_orders_33 ?_
        refine G.mgeta 2 fl_X6_24 dX6_orders_34 ?_
        refine G.iload_n1 dX6_orders_37 ?_
        refine G.miald (n := 5866) 2 j dX6_orders_38 rfl (by omega) ?_
        rw [show (mar M7 5 (cpA (M7.2.2.1 5) (M7.2.2.1 2) 0 j)).2.2.1 2 j = M7.2.2.1 2 j from rfl]
        refine G.miast (n := 34) 5 j dX6_orders_39 rfl (by omega) ?_
        rw [ma_mar, show upd (cpA (M7.2.2.1 5) (M7.2.2.1 2) 0 j) j (M7.2.2.1 2 j) = cpA (M7.2.2.1 5) (M7.2.2.1 2) 0 (j + 1) from by
          have := cpA_s (h := M7.2.2.1 5) (g := M7.2.2.1 2) (a := 0) (j := j)
          rw [Nat.zero_add] at this
          exact this]
        refine G.iinc1 dX6_orders_40 ?_
        try rw [show ∀ a : Nat, nI a + Int32.ofInt 1 = nI (a + 1) from fun a => nI_add a 1]
        refine G.goto (tgt := 22) dX6_orders_43 (by decide) ?_
        exact ih (j + 1) (by omega)
  refine G.iconst (v := nI 0) dX6_orders_20 (by decide) ?_
  refine G.istore_n1 dX6_orders_21 ?_
  have := loop1 34 0 rfl
  rw [cpA_0, mar_id] at this
  exact this
theorem c_X6_orders {M : MM} {K : KR} (eK : M.2.2.1 2 = K) {b n u size : Nat} (hS : stOk (got M u) b n) (hb : b + 600 ≤ 1000000) (hu : M.1 28 = nI u) (hw : ∀ i, i < 153 → M.2.2.1 7 i = nI (zW i)) (hs : size ≤ 400) (h13 : M.1 13 = nI size) : MC E fX6_orders L M ph [] (rI fun r M' => r = (oOrders M n u size).1 ∧ mS (oOrders M n u size).2 M') := by
  have hlen := (zToks_b (tp := M.2.2.1 11) (size := size) 401 0 (by omega)).1
  have hok : tkOk (tkOf (zToks (M.2.2.1 11) size 401 0)) (zToks (M.2.2.1 11) size 401 0).length := tkOf_ok (by omega)
  unfold oOrders
  refine Ct.of [some (.ref (L.1 52)), none, none, none, none] rfl (Nat.le_of_ble_eq_true rfl) (show plainName RX6 = true by decide +kernel) rfl ?_
  refine G.aload_n0 dX6_orders_0 ?_
  refine G.iconst (v := -1) dX6_orders_1 (by decide) ?_
  refine G.mputi 41 fp_X6_100 dX6_orders_2 ?_
  refine G.aload_n0 dX6_orders_5 ?_
  refine G.iconst (v := nI 1) dX6_orders_6 (by decide) ?_
  refine G.mcall (f' := fX6_readsAs) q2002 ck_X6_readsAs (c_X6_readsAs (M := ms M 41 (-1)) hw hs h13 true) dX6_orders_7 (rI.k fun r_7 M_7 h_7 => ?_)
  obtain ⟨⟨a1, a2, a3, a4⟩, hx⟩ := h_7
  rw [show (ms M 41 (-1)).2.2.1 11 = M.2.2.1 11 from rfl] at a1 a3 a4
  generalize hT : zToks (M.2.2.1 11) size 401 0 = T at *
  cases hP : pText true (tkOf T) T.length with
  | inl e =>
    rw [hP] at a1
    obtain ⟨rfl, a14⟩ := a1
    dsimp only
    refine G.ifb_ne (tgt := 20) dX6_orders_10 (by decide) (fun c_10 => ?_) (fun c_10 => ?_)
    · exact absurd c_10 Bool.false_ne_true
    · refine G.aload_n0 dX6_orders_13 ?_
      refine G.bipush (v := -6) dX6_orders_14 (by decide) ?_
      refine G.mcall (f' := fX6_refuses) q1915 ck_X6_refuses (c_X6_refuses E L _ ph (k := 6) (by decide)) dX6_orders_16 (rI.k fun r_16 M_16 h_16 => ?_)
      obtain ⟨e_16, h_16⟩ := h_16; replace e_16 := e_16.symm; replace h_16 := h_16.symm; subst e_16; subst h_16
      refine G.ireturn dX6_orders_19 ?_
      exact ⟨_, rfl, _, rfl, rfl, mX_ref2 (mS_rd hx a2 a14) (by decide)⟩
  | inr cs =>
    rw [hP] at a1
    obtain ⟨rfl, a14⟩ := a1
    dsimp only
    obtain ⟨p, l, hp, hNp⟩ := pCls_N hP
    have hbase := mS_rd hx a2 a14
    have e2 : M_7.2.2.1 2 = M.2.2.1 2 := hx.2.2.1 2 (by decide)
    have e26 : M_7.2.2.1 26 = M.2.2.1 26 := hx.2.2.1 26 (by decide)
    have e28 : M_7.1 28 = nI u := (hx.1 28 (by decide)).trans hu
    have hcd : ∀ i, i < T.length → M_7.2.2.1 15 i = (tkOf T).1 i ∧ M_7.2.2.1 16 i = (tkOf T).2 i := a4
    generalize hP2 : (fun r M' => r = (match runO n (cs.map (fun c : Nat × Cl => c.2)) 0 (kLay (M.2.2.1 2) (tkOf T) T.length 6 T.length, M.2.2.1 26, u) 0 with
        | .inl i => sNo (ms (mar (ms (ms (ms M 41 (-1)) 13 (nI 0)) 14 (-1)) 2 (kLay (M.2.2.1 2) (tkOf T) T.length 6 T.length)) 41 (nI i)) 3
        | .inr x => (nI x.2, sGood (put (ms (ms (ms M 41 (-1)) 13 (nI 0)) 14 (-1)) x.1))).1 ∧ mS (match runO n (cs.map (fun c : Nat × Cl => c.2)) 0 (kLay (M.2.2.1 2) (tkOf T) T.length 6 T.length, M.2.2.1 26, u) 0 with
        | .inl i => sNo (ms (mar (ms (ms (ms M 41 (-1)) 13 (nI 0)) 14 (-1)) 2 (kLay (M.2.2.1 2) (tkOf T) T.length 6 T.length)) 41 (nI i)) 3
        | .inr x => (nI x.2, sGood (put (ms (ms (ms M 41 (-1)) 13 (nI 0)) 14 (-1)) x.1))).2 M' : Int32 → MM → Prop) = PP
    have hfarK : ∀ i, i < 266 → ¬ i = 265 → kLay (M.2.2.1 2) (tkOf T) T.length 6 T.length i = M.2.2.1 2 i := by
      intro i h1 h2
      unfold kLay
      rw [if_neg (by omega), if_neg (by omega), if_neg (by omega)]
    have k20 : G E fX6_orders (mFin E fX6_orders L ph (rI PP)) 20 [some (.ref (L.1 52)), none, none, none, none] [] (movl L M_7 ph) 0 0 := by
      refine orders_mid (fun Mc a1 hMc => ?_)
      have c2 : Mc.2.2.1 2 = M.2.2.1 2 := by rw [hMc]; exact e2
      have c28 : Mc.1 28 = nI u := by rw [hMc]; exact e28
      have c26 : Mc.2.2.1 26 = M.2.2.1 26 := by rw [hMc]; exact e26
      have c5 : ∀ k, k < 34 → Mc.2.2.1 5 k = M.2.2.1 2 k := by
        intro k hk
        rw [hMc]
        show cpA (M_7.2.2.1 5) (M_7.2.2.1 2) 0 34 k = _
        rw [cpA_at, if_pos (by omega), e2]
        rfl
      have c27 : ∀ k, k < 560 → Mc.2.2.1 27 k = M.2.2.1 26 k := by
        intro k hk
        rw [hMc]
        show cpA (M_7.2.2.1 27) (M_7.2.2.1 26) 0 560 k = _
        rw [cpA_at, if_pos (by omega), e26]
        rfl
      have hMS : mS M_7 Mc := by
        rw [hMc]
        exact mX_mark (mX_mark mX.rf (by decide)) (by decide)
      have h185 : Mc.1 18 = nI T.length := by rw [hMc]; exact a3
      have hcd5 : ∀ i, i < T.length → Mc.2.2.1 15 i = (tkOf T).1 i ∧ Mc.2.2.1 16 i = (tkOf T).2 i := by rw [hMc]; exact hcd
      clear hMc
      have hB : mS (put (ms (ms (ms M 41 (-1)) 13 (nI 0)) 14 (-1)) (kLay (M.2.2.1 2) (tkOf T) T.length 6 T.length, M.2.2.1 26, u)) (ms (ms (mar Mc 2 (kLay (M.2.2.1 2) (tkOf T) T.length 6 T.length)) 42 (nI 0)) 43 (nI 2400)) := by
        rw [put_is rfl hu]
        exact ((mX_mar2 (hbase.tr hMS (fun _ z => z) (fun _ z => z))).ms (by decide)).ms (by decide)
      have hKL : KOk (kLay (M.2.2.1 2) (tkOf T) T.length 6 T.length) b n := KOk_lay hS.1 (fun i hi => hfarK i (by omega) (by omega)) (fun i h1 h2 => by
        unfold kLay
        rw [if_neg (by omega), if_neg (by omega), if_neg (by omega)]
        rfl)
      have hS0 : stOk (kLay (M.2.2.1 2) (tkOf T) T.length 6 T.length, M.2.2.1 26, u) b n := ⟨hKL, hS.2.1, hS.2.2⟩
      refine G.aload_n0 dX6_orders_73 ?_
      refine G.mgeti 28 fl_X6_11 dX6_orders_74 ?_
      rw [c28]
      refine G.istore_n1 dX6_orders_77 ?_
      refine G.aload_n0 dX6_orders_78 ?_
      refine G.bipush (v := nI 6) dX6_orders_79 (by decide) ?_
      refine G.mcall (f' := fX6_lays) q2088 ck_X6_lays (c_X6_lays (M := Mc) (tk := tkOf T) (N := T.length) (t := 6) (by omega) (by omega) h185 hcd5) dX6_orders_81 (rV.k fun M_81 h_81 => ?_)
      replace h_81 := h_81.symm
      subst h_81
      rw [c2]
      refine G.aload_n0 dX6_orders_84 ?_
      refine G.iconst (v := nI 0) dX6_orders_85 (by decide) ?_
      refine G.mputi 42 fp_X6_411 dX6_orders_86 ?_
      refine G.aload_n0 dX6_orders_89 ?_
      refine G.sipush (v := nI 2400) dX6_orders_90 (by decide) ?_
      refine G.mputi 43 fp_X6_414 dX6_orders_93 ?_
      refine G.aload_n0 dX6_orders_96 ?_
      refine G.mgeti 43 fl_X6_414 dX6_orders_97 ?_
      rw [show (ms (ms (mar Mc 2 (kLay (M.2.2.1 2) (tkOf T) T.length 6 T.length)) 42 (nI 0)) 43 (nI 2400)).1 43 = nI 2400 from rfl]
      refine G.aload_n0 dX6_orders_100 ?_
      refine G.mgeta 2 fl_X6_24 dX6_orders_101 ?_
      refine G.sipush (v := nI 265) dX6_orders_104 (by decide) ?_
      refine G.miald (n := 5866) 2 _ dX6_orders_107 rfl (by omega) ?_
      rw [show (ms (ms (mar Mc 2 (kLay (M.2.2.1 2) (tkOf T) T.length 6 T.length)) 42 (nI 0)) 43 (nI 2400)).2.2.1 2 265 = nI T.length from (show kLay (M.2.2.1 2) (tkOf T) T.length 6 T.length 265 = nI T.length from if_pos rfl)]
      first | with_reducible refine G.iaddn dX6_orders_108 ?_ | refine G.iadd dX6_orders_108 ?_
      refine G.istore_n2 dX6_orders_109 ?_
      refine G.iconst (v := nI 0) dX6_orders_110 (by decide) ?_
      refine G.istore_n3 dX6_orders_111 ?_
      refine orders_loop (M := ms (ms (mar Mc 2 (kLay (M.2.2.1 2) (tkOf T) T.length 6 T.length)) 42 (nI 0)) 43 (nI 2400)) (tk := tkOf T) (s0 := (kLay (M.2.2.1 2) (tkOf T) T.length 6 T.length, M.2.2.1 26, u)) (b := b) (n := n) (by omega) hok hb rfl hNp (fun i hi => ?_) (fun i hi => ?_) (fun k hk => ?_) c27 (fun s d M' hr hM' => ?_) (fun i s' M' hr hf hM' => ?_) 12 [] 0 0 (kLay (M.2.2.1 2) (tkOf T) T.length 6 T.length, M.2.2.1 26, u) 0 _ none rfl hp (fun rest hr => by rw [hr]; rfl) hS0 (by omega) far_rf ?_ rfl rfl
      · show kLay _ _ _ _ _ (266 + (2400 + i)) = _
        unfold kLay
        rw [if_neg (by omega), if_pos (by omega), show 266 + (2400 + i) - (266 + 400 * 6) = i from by omega]
      · show kLay _ _ _ _ _ (3066 + (2400 + i)) = _
        unfold kLay
        rw [if_neg (by omega), if_neg (by omega), if_pos (by omega), show 3066 + (2400 + i) - (3066 + 400 * 6) = i from by omega]
      · exact (c5 k hk).trans (hfarK k (by omega) (by omega)).symm
      · rw [← hP2, hr]
        refine ⟨rfl, ?_⟩
        have h5 := mX_put (s := s) hB
        rw [put_put] at h5
        exact (mX_ms2 h5).tr hM' (by simp) (by simp)
      · rw [← hP2, hr]
        refine ⟨rfl, ?_⟩
        have e1 : cpA s'.1 (kLay (M.2.2.1 2) (tkOf T) T.length 6 T.length) 0 34 = kLay (M.2.2.1 2) (tkOf T) T.length 6 T.length := cpA_all hf.1
        have e3 : cpA s'.2.1 (M.2.2.1 26) 0 560 = M.2.2.1 26 := cpA_all hf.2
        rw [e1, e3] at hM'
        have h5 := mX_put (s := (kLay (M.2.2.1 2) (tkOf T) T.length 6 T.length, M.2.2.1 26, u)) hB
        rw [put_put, put_is (M := ms (ms (ms M 41 (-1)) 13 (nI 0)) 14 (-1)) (s := (kLay (M.2.2.1 2) (tkOf T) T.length 6 T.length, M.2.2.1 26, u)) rfl hu] at h5
        exact (mX_ref2 (mX_ms2 h5) (by decide)).tr hM' (by simp) (by simp)
      · rw [put_is (M := ms (ms (mar Mc 2 (kLay (M.2.2.1 2) (tkOf T) T.length 6 T.length)) 42 (nI 0)) 43 (nI 2400)) (s := (kLay (M.2.2.1 2) (tkOf T) T.length 6 T.length, M.2.2.1 26, u)) c26 c28, show mar (ms (ms (mar Mc 2 (kLay (M.2.2.1 2) (tkOf T) T.length 6 T.length)) 42 (nI 0)) 43 (nI 2400)) 2 (kLay (M.2.2.1 2) (tkOf T) T.length 6 T.length) = ms (ms (mar Mc 2 (kLay (M.2.2.1 2) (tkOf T) T.length 6 T.length)) 42 (nI 0)) 43 (nI 2400) from mar_id (M := ms (ms (mar Mc 2 (kLay (M.2.2.1 2) (tkOf T) T.length 6 T.length)) 42 (nI 0)) 43 (nI 2400)) (k := 2)]
        exact mX.rf
    refine G.ifb_ne (tgt := 20) dX6_orders_10 (by decide) (fun c_10 => ?_) (fun c_10 => ?_)
    · exact k20
    · exact absurd c_10 (fun z => Bool.false_ne_true z.symm)
end Orders
