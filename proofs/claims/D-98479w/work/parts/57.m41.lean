/-! ORDERS -/
def ordA (K : KR) (done : Nat) : Nat → Int32 := fun i => if i = 0 then K 33 else if i = 1 then K 30 else if i = 2 then K 31 else if i = 3 then nI done else if i = 4 then K 32 else nI 0
def ordE (K : KR) (done : Nat) : En := aEn K (ordA K done)
/-- what an order does, once it is asked for: none, if its sum is broken -/
def actR (n : Nat) (c : Cl) (s : St) (done : Nat) : Option (Int32 × St) := match c.2.1 with
  | none => some (aDark n s)
  | some sm => match sm (ordE s.1 done) with
    | none => none
    | some v => some (if c.1 = 26 then aSend n s (zSmall v) else aLight n s (zSmall v))
/-- one go of an order: none, if it can't be -/
def actO (n : Nat) (c : Cl) (s : St) (done : Nat) : Option (St × Nat) :=
  if zHolds c.2.2.2 (ordE s.1 done) then
    (match actR n c s done with
    | none => none
    | some r => if r.1 < 0 then none else some (r.2, done + 1))
  else some (s, done)
theorem actR_dark {n : Nat} {c : Cl} {s : St} {done : Nat} (h : c.2.1 = none) : actR n c s done = some (aDark n s) := by
  unfold actR
  rw [h]
theorem actR_off {n : Nat} {c : Cl} {s : St} {done : Nat} {sm : Sm} (h : c.2.1 = some sm) (hv : sm (ordE s.1 done) = none) : actR n c s done = none := by
  unfold actR
  rw [h]
  dsimp only
  rw [hv]
theorem actR_sum {n : Nat} {c : Cl} {s : St} {done : Nat} {sm : Sm} {v : Int64} (h : c.2.1 = some sm) (hv : sm (ordE s.1 done) = some v) : actR n c s done = some (if c.1 = 26 then aSend n s (zSmall v) else aLight n s (zSmall v)) := by
  unfold actR
  rw [h]
  dsimp only
  rw [hv]
theorem actO_r {n : Nat} {c : Cl} {s : St} {done : Nat} {x : Int32 × St} (h1 : zHolds c.2.2.2 (ordE s.1 done) = true) (h2 : actR n c s done = some x) : actO n c s done = if x.1 < 0 then none else some (x.2, done + 1) := by
  unfold actO
  rw [if_pos h1, h2]
theorem actO_off {n : Nat} {c : Cl} {s : St} {done : Nat} (h1 : zHolds c.2.2.2 (ordE s.1 done) = true) (h2 : actR n c s done = none) : actO n c s done = none := by
  unfold actO
  rw [if_pos h1, h2]
theorem actO_no {n : Nat} {c : Cl} {s : St} {done : Nat} (h1 : zHolds c.2.2.2 (ordE s.1 done) = false) : actO n c s done = some (s, done) := by
  unfold actO
  rw [if_neg (by rw [h1]; exact Bool.false_ne_true)]
def timesO (n : Nat) (c : Cl) : Nat → St → Nat → Option (St × Nat)
  | 0, s, d => some (s, d)
  | k + 1, s, d => match actO n c s d with
    | none => none
    | some x => timesO n c k x.1 x.2
def runO (n : Nat) : List Cl → Nat → St → Nat → Nat ⊕ (St × Nat)
  | [], _, s, d => .inr (s, d)
  | c :: cs, i, s, d => match timesO n c (tNat c.2.2.1) s d with
    | none => .inl i
    | some x => runO n cs (i + 1) x.1 x.2
theorem actO_ok {n b : Nat} {c : Cl} {s : St} {done : Nat} {x : St × Nat} (h : stOk s b n) (e : actO n c s done = some x) : stOk x.1 (b + 2) n ∧ x.2 ≤ done + 1 ∧ far x.1 s := by
  have h10 := h.1.1.1
  have same : stOk s (b + 2) n := ⟨KOk_mono h.1 (by omega), h.2.1, lfOk_mono h.2.2 (by omega)⟩
  cases hz : zHolds c.2.2.2 (ordE s.1 done) with
  | false =>
    rw [actO_no hz] at e
    cases e
    exact ⟨same, by omega, far_rf⟩
  | true =>
    have key : ∀ r : Int32 × St, actR n c s done = some r → (stOk r.2 (b + 2) n ∧ far r.2 s) → stOk x.1 (b + 2) n ∧ x.2 ≤ done + 1 ∧ far x.1 s := by
      intro r hr1 hr
      rw [actO_r hz hr1] at e
      split at e
      · cases e
      · cases e
        exact ⟨hr.1, Nat.le_refl _, hr.2⟩
    cases hc : c.2.1 with
    | none => exact key _ (actR_dark hc) ⟨aDark_ok h, aDark_fr h10 h.2.1⟩
    | some sm =>
      cases hv : sm (ordE s.1 done) with
      | none => rw [actO_off hz (actR_off hc hv)] at e; cases e
      | some v =>
        refine key _ (actR_sum hc hv) ?_
        split
        · exact ⟨aSend_ok h, aSend_fr h10 h.2.1⟩
        · exact ⟨aLight_ok h, aLight_fr h10 h.2.1⟩
theorem timesO_ok {n : Nat} {c : Cl} : ∀ {k : Nat} {b : Nat} {s : St} {done : Nat} {x : St × Nat}, stOk s b n → timesO n c k s done = some x → stOk x.1 (b + 2 * k) n ∧ x.2 ≤ done + k ∧ far x.1 s
  | 0, b, s, done, x, h, e => by
    cases e
    exact ⟨h, by omega, far_rf⟩
  | k + 1, b, s, done, x, h, e => by
    rw [timesO] at e
    cases ha : actO n c s done with
    | none => rw [ha] at e; cases e
    | some y =>
      rw [ha] at e
      obtain ⟨h1, h2, h3⟩ := actO_ok h ha
      obtain ⟨g1, g2, g3⟩ := timesO_ok h1 e
      rw [show b + 2 * (k + 1) = b + 2 + 2 * k from by omega]
      exact ⟨g1, by omega, far_tr g3 h3⟩
/-- what orders' clauses are made of -/
theorem pTimes_of {tk : Tk} {h : Nat} {s : Option Sm} {pos lv : Nat} {c : Cl} {p l : Nat} (q : pTimes tk h s pos lv = .inr (c, p, l)) : (tk.1 pos = nI 29 ∧ tk.1 (pos + 1) = nI 50 ∧ (1 ≤ (tk.2 (pos + 1)).toInt ∧ (tk.2 (pos + 1)).toInt ≤ 20) ∧ pIf true tk h s (tk.2 (pos + 1)) (pos + 2) lv = .inr (c, p, l)) ∨ (¬ tk.1 pos = nI 29 ∧ pIf true tk h s 1 pos lv = .inr (c, p, l)) := by
  unfold pTimes at q
  split at q
  · rename_i h1
    split at q
    · rename_i h2
      exact Or.inl ⟨h1, h2.1, h2.2, q⟩
    · cases q
  · rename_i h1
    exact Or.inr ⟨h1, q⟩
theorem pOrdCl_of {tk : Tk} {pos lv : Nat} {c : Cl} {p l : Nat} (q : pOrdCl tk pos lv = .inr (c, p, l)) : ∃ (h : Nat) (s : Option Sm) (p1 l1 : Nat), 26 ≤ h ∧ h ≤ 28 ∧ tk.1 pos = nI h ∧ (h = 28 ∧ s = none ∧ p1 = pos + 1 ∧ l1 = lv ∨ h < 28 ∧ ∃ s1, s = some s1 ∧ pSum true tk 8 (pos + 1) lv = .inr (s1, p1, l1)) ∧ pTimes tk h s p1 l1 = .inr (c, p, l) := by
  unfold pOrdCl at q
  split at q
  · rename_i h1
    have hk : ∃ k, 26 ≤ k ∧ k < 28 ∧ tk.1 pos = nI k := by
      rcases h1 with z | z
      · exact ⟨26, by omega, by omega, z⟩
      · exact ⟨27, by omega, by omega, z⟩
    obtain ⟨k, hk1, hk2, ek⟩ := hk
    have e2 : (tk.1 pos).toInt.toNat = k := by rw [ek, t_nI (by omega)]; omega
    cases h3 : pSum true tk 8 (pos + 1) lv with
    | inl x => rw [h3] at q; cases q
    | inr x =>
      obtain ⟨s, p1, l1⟩ := x
      rw [h3, e2] at q
      exact ⟨k, some s, p1, l1, hk1, by omega, ek, Or.inr ⟨hk2, s, rfl, rfl⟩, q⟩
  · split at q
    · rename_i h2
      exact ⟨28, none, pos + 1, lv, by omega, by omega, h2, Or.inl ⟨rfl, rfl, rfl, rfl⟩, q⟩
    · cases q
/-- a clause as it was read: head, sum, how often, test -/
theorem pOrd_c {tk : Tk} {pos lv : Nat} {c : Cl} {p l : Nat} {h : Nat} {s : Option Sm} {p1 l1 : Nat} (q : pTimes tk h s p1 l1 = .inr (c, p, l)) : c.1 = h ∧ c.2.1 = s ∧ ∃ k, 1 ≤ k ∧ k ≤ 20 ∧ c.2.2.1 = nI k := by
  rcases pTimes_of q with ⟨-, -, ⟨z1, z2⟩, z⟩ | ⟨-, z⟩
  · obtain ⟨k, hk, ek⟩ := t_of (p := tk.2 (p1 + 1)) (n := 21) (by omega) (by omega)
    rw [ek, t_nI (by omega)] at z1
    rcases pIf_of z with ⟨-, t, -, rfl⟩ | ⟨-, rfl, -⟩
    · exact ⟨rfl, rfl, k, by omega, by omega, ek⟩
    · exact ⟨rfl, rfl, k, by omega, by omega, ek⟩
  · rcases pIf_of z with ⟨-, t, -, rfl⟩ | ⟨-, rfl, -⟩
    · exact ⟨rfl, rfl, 1, by omega, by omega, rfl⟩
    · exact ⟨rfl, rfl, 1, by omega, by omega, rfl⟩
theorem EvC.mw {M M' : MM} {B N : Nat} {tk : Tk} {ord : Bool} {e : En} {n : Nat} (h : EvC M B N tk ord e n) (hx : mX [22, 24, 44, 45, 46, 47, 48] [] M M') : EvC M' B N tk ord e n := by
  have e2 : M'.2.2.1 2 = M.2.2.1 2 := hx.2.2.1 2 (by decide)
  have e25 : M'.2.2.1 25 = M.2.2.1 25 := hx.2.2.1 25 (by decide)
  have hw : ∀ k, sWorth M' k = sWorth M k := fun k => by unfold sWorth; rw [e2]
  unfold EvC
  rw [e2, e25, hx.1 23 (by decide), hx.1 8 (by decide)]
  simp only [hw]
  exact h
section Orders
variable {E : JE} {L : ML} {ph : HP}
theorem ordA_ok {K : KR} {b n done : Nat} (hK : KOk K b n) (hb : b ≤ 1000000) (hd : done ≤ 1000) : ∀ i, i < 10 → -1000000000 ≤ (ordA K done i).toInt ∧ (ordA K done i).toInt ≤ 1000000000 := by
  intro i hi
  obtain ⟨⟨a, ha, ea⟩, ⟨a2, ha2, ea2⟩, ⟨a3, ha3, ea3⟩, ⟨a4, ha4, ea4⟩⟩ := hK.2.2.1
  unfold ordA
  rw [ea, ea2, ea3, ea4]
  split
  · rw [t_nI (by omega)]; omega
  · split
    · rw [t_nI (by omega)]; omega
    · split
      · rw [t_nI (by omega)]; omega
      · split
        · rw [t_nI (by omega)]; omega
        · split
          · rw [t_nI (by omega)]; omega
          · rw [t_nI (by omega)]; omega
/-- gone along a clause: where it ends, what it says -/
theorem c_X6_goesAlong {M : MM} {K : KR} (eK : M.2.2.1 2 = K) {b n done N pos lv : Nat} {tk : Tk} {c : Cl} {pc lc : Nat} (hK : KOk K b n) (hb : b ≤ 1000000) (hd : done ≤ 1000) (hN : N ≤ 400) (htk : tkOk tk N) (hc1 : ∀ i, i < N → K (266 + (2400 + i)) = tk.1 i) (hc2 : ∀ i, i < N → K (3066 + (2400 + i)) = tk.2 i) (hP : pOrdCl tk pos lv = .inr (c, pc, lc)) (h42 : M.1 42 = nI done) (h43 : M.1 43 = nI (2400 + pos)) (live : Bool) : MC E fX6_goesAlong L M ph [.int (nI (2400 + N)), .int (bI live)] (rV fun M' => mX [8, 22, 23, 24, 44, 45, 46, 47, 48] [25] M M' ∧ M'.1 22 = nI (2400 + pc + 1) ∧ M'.1 44 = c.2.2.1 ∧ M'.1 45 = nI c.1 ∧ (live = true → M'.1 46 = bI (zTold c.2.1 (ordE K done)).isSome ∧ (∀ s v, c.2.1 = some s → s (ordE K done) = some v → M'.2.1 = v) ∧ M'.1 47 = bI (zHolds c.2.2.2 (ordE K done)))) := by
  obtain ⟨h, s, p1, l1, hh1, hh2, hpos, hs, hT⟩ := pOrdCl_of hP
  obtain ⟨cc1, cc2, -⟩ := pOrd_c (pos := pos) (lv := lv) hT
  have hposN : pos < N := tk_in htk (by omega) (by omega) hpos
  have hen := aEn_ok (a := ordA K done) hK (ordA_ok hK hb hd)
  have hps := kPer_en (a := ordA K done) hK
  rw [show aEn K (ordA K done) = ordE K done from rfl] at hen hps
  have hp1 : p1 ≤ N := by
    rcases hs with ⟨-, -, q, -⟩ | ⟨-, s1, -, q⟩
    · omega
    · exact (pSum_Q htk hen 8 _ _ _ _ _ q).2.2
  rw [cc1, cc2]
  generalize hE : ordE K done = e at *
  subst eK
  have h10 := hK.1.1
  have k215 : ∀ (M4 : MM) (hb tb : Bool), mX [8, 22, 23, 24, 44, 45, 46, 47, 48] [25] M M4 → M4.1 22 = nI (2400 + pc) → M4.1 24 = bI tb → M4.1 44 = c.2.2.1 → M4.1 45 = nI h → (live = true → (hb && !tb) = zHolds c.2.2.2 e ∧ M4.1 46 = bI (zTold s e).isSome ∧ ∀ s1 v, s = some s1 → s1 e = some v → M4.2.1 = v) → G E fX6_goesAlong (mFin E fX6_goesAlong L ph (rV fun M' => mX [8, 22, 23, 24, 44, 45, 46, 47, 48] [25] M M' ∧ M'.1 22 = nI (2400 + pc + 1) ∧ M'.1 44 = c.2.2.1 ∧ M'.1 45 = nI h ∧ (live = true → M'.1 46 = bI (zTold s e).isSome ∧ (∀ s1 v, s = some s1 → s1 e = some v → M'.2.1 = v) ∧ M'.1 47 = bI (zHolds c.2.2.2 e)))) 215 [some (.ref (L.1 52)), some (.int (nI (2400 + N))), some (.int (bI live))] [.int (bI hb), .ref (L.1 52)] (movl L M4 ph) 0 0 := by
    intro M4 hb tb hx h22 h24 h44 h45 hl
    refine G.mputi 47 fp_X6_433 dX6_goesAlong_215 ?_ (hn := by first | rfl | exact bI_nar _) (hfit := by first | rfl | exact bI_fit _)
    refine G.aload_n0 dX6_goesAlong_218 ?_
    refine G.aload_n0 dX6_goesAlong_219 ?_
    refine G.mgeti 47 fl_X6_433 dX6_goesAlong_220 ?_
    rw [show (ms M4 47 (bI hb)).1 47 = bI hb from rfl]
    refine G.ifb_eq (tgt := 237) dX6_goesAlong_223 (by decide) (fun c_223 => ?_) (fun c_223 => ?_)
    · refine G.iconst (v := nI 0) dX6_goesAlong_237 (by decide) ?_
      refine G.mputi 47 fp_X6_433 dX6_goesAlong_238 ?_ (hn := by first | rfl | exact bI_nar _) (hfit := by first | rfl | exact bI_fit _)
      refine G.aload_n0 dX6_goesAlong_241 ?_
      refine G.dup dX6_goesAlong_242 rfl ?_
      refine G.mgeti 22 fl_X6_248 dX6_goesAlong_243 ?_
      first
      | rw [show (ms (ms M4 47 (bI hb)) 47 (nI 1)).1 22 = nI (2400 + pc) from h22]
      | rw [show (ms (ms M4 47 (bI hb)) 47 (nI 0)).1 22 = nI (2400 + pc) from h22]
      refine G.iconst (v := nI 1) dX6_goesAlong_246 (by decide) ?_
      first | with_reducible refine G.iaddn dX6_goesAlong_247 ?_ | refine G.iadd dX6_goesAlong_247 ?_
      refine G.mputi 22 fp_X6_248 dX6_goesAlong_248 ?_
      refine G.return_ dX6_goesAlong_251 ?_
      refine ⟨_, rfl, rfl, ((hx.ms (by decide)).ms (by decide)).ms (by decide), rfl, h44, h45, fun hlive => ?_⟩
      obtain ⟨g1, g2, g3⟩ := hl hlive
      refine ⟨g2, g3, ?_⟩
      rw [← g1]
      first
        | (rw [c_223, c_230]; rfl)
        | (rw [c_230, Bool.not_true, Bool.and_false]; rfl)
        | (rw [c_223]; rfl)
    · refine G.aload_n0 dX6_goesAlong_226 ?_
      refine G.mgeti 24 fl_X6_258 dX6_goesAlong_227 ?_
      rw [show (ms M4 47 (bI hb)).1 24 = bI tb from h24]
      refine G.ifb_ne (tgt := 237) dX6_goesAlong_230 (by decide) (fun c_230 => ?_) (fun c_230 => ?_)
      · refine G.iconst (v := nI 0) dX6_goesAlong_237 (by decide) ?_
        refine G.mputi 47 fp_X6_433 dX6_goesAlong_238 ?_ (hn := by first | rfl | exact bI_nar _) (hfit := by first | rfl | exact bI_fit _)
        refine G.aload_n0 dX6_goesAlong_241 ?_
        refine G.dup dX6_goesAlong_242 rfl ?_
        refine G.mgeti 22 fl_X6_248 dX6_goesAlong_243 ?_
        first
        | rw [show (ms (ms M4 47 (bI hb)) 47 (nI 1)).1 22 = nI (2400 + pc) from h22]
        | rw [show (ms (ms M4 47 (bI hb)) 47 (nI 0)).1 22 = nI (2400 + pc) from h22]
        refine G.iconst (v := nI 1) dX6_goesAlong_246 (by decide) ?_
        first | with_reducible refine G.iaddn dX6_goesAlong_247 ?_ | refine G.iadd dX6_goesAlong_247 ?_
        refine G.mputi 22 fp_X6_248 dX6_goesAlong_248 ?_
        refine G.return_ dX6_goesAlong_251 ?_
        refine ⟨_, rfl, rfl, ((hx.ms (by decide)).ms (by decide)).ms (by decide), rfl, h44, h45, fun hlive => ?_⟩
        obtain ⟨g1, g2, g3⟩ := hl hlive
        refine ⟨g2, g3, ?_⟩
        rw [← g1]
        first
          | (rw [c_223, c_230]; rfl)
          | (rw [c_230, Bool.not_true, Bool.and_false]; rfl)
          | (rw [c_223]; rfl)
      · refine G.iconst (v := nI 1) dX6_goesAlong_233 (by decide) ?_
        refine G.goto (tgt := 238) dX6_goesAlong_234 (by decide) ?_
        refine G.mputi 47 fp_X6_433 dX6_goesAlong_238 ?_ (hn := by first | rfl | exact bI_nar _) (hfit := by first | rfl | exact bI_fit _)
        refine G.aload_n0 dX6_goesAlong_241 ?_
        refine G.dup dX6_goesAlong_242 rfl ?_
        refine G.mgeti 22 fl_X6_248 dX6_goesAlong_243 ?_
        first
        | rw [show (ms (ms M4 47 (bI hb)) 47 (nI 1)).1 22 = nI (2400 + pc) from h22]
        | rw [show (ms (ms M4 47 (bI hb)) 47 (nI 0)).1 22 = nI (2400 + pc) from h22]
        refine G.iconst (v := nI 1) dX6_goesAlong_246 (by decide) ?_
        first | with_reducible refine G.iaddn dX6_goesAlong_247 ?_ | refine G.iadd dX6_goesAlong_247 ?_
        refine G.mputi 22 fp_X6_248 dX6_goesAlong_248 ?_
        refine G.return_ dX6_goesAlong_251 ?_
        refine ⟨_, rfl, rfl, ((hx.ms (by decide)).ms (by decide)).ms (by decide), rfl, h44, h45, fun hlive => ?_⟩
        obtain ⟨g1, g2, g3⟩ := hl hlive
        refine ⟨g2, g3, ?_⟩
        rw [← g1]
        first
          | (rw [c_223, c_230]; rfl)
          | (rw [c_230, Bool.not_true, Bool.and_false]; rfl)
          | (rw [c_223]; rfl)
  have k187 : ∀ (M3 : MM) (p2 : Nat), mX [8, 22, 23, 24, 44, 45, 46, 47, 48] [25] M M3 → EvC M3 2400 N tk true e n → p2 ≤ N → pIf true tk h s c.2.2.1 p2 l1 = .inr (c, pc, lc) → M3.1 22 = nI (2400 + p2) → M3.1 44 = c.2.2.1 → M3.1 45 = nI h → (live = true → M3.1 46 = bI (zTold s e).isSome ∧ ∀ s1 v, s = some s1 → s1 e = some v → M3.2.1 = v) → G E fX6_goesAlong (mFin E fX6_goesAlong L ph (rV fun M' => mX [8, 22, 23, 24, 44, 45, 46, 47, 48] [25] M M' ∧ M'.1 22 = nI (2400 + pc + 1) ∧ M'.1 44 = c.2.2.1 ∧ M'.1 45 = nI h ∧ (live = true → M'.1 46 = bI (zTold s e).isSome ∧ (∀ s1 v, s = some s1 → s1 e = some v → M'.2.1 = v) ∧ M'.1 47 = bI (zHolds c.2.2.2 e)))) 187 [some (.ref (L.1 52)), some (.int (nI (2400 + N))), some (.int (bI live))] [] (movl L M3 ph) 0 0 := by
    intro M3 p2 hx hC hp2 hif h22 h44 h45 hl
    refine G.aload_n0 dX6_goesAlong_187 ?_
    refine G.iconst (v := nI 0) dX6_goesAlong_188 (by decide) ?_
    refine G.mputi 24 fp_X6_258 dX6_goesAlong_189 ?_ (hn := by first | rfl | exact bI_nar _) (hfit := by first | rfl | exact bI_fit _)
    refine G.aload_n0 dX6_goesAlong_192 ?_
    refine G.aload_n0 dX6_goesAlong_193 ?_
    refine G.bipush (v := nI 6) dX6_goesAlong_194 (by decide) ?_
    refine G.mcall (f' := fX6_passes0) q2140 ck_X6_passes0 (c_X6_passes0 (pos := p2) (nI 6) (hC.mv (mX.rf.ms (by decide))) hp2 h22) dX6_goesAlong_196 (rI.k fun r_196 M_196 h_196 => ?_)
    obtain ⟨e_196, h_196⟩ := h_196; replace e_196 := e_196.symm; replace h_196 := h_196.symm; subst e_196; subst h_196
    refine G.ifb_eq (tgt := 210) dX6_goesAlong_199 (by decide) (fun c_199 => ?_) (fun c_199 => ?_)
    · have q := of_decide_eq_false c_199
      rw [if_neg q]
      obtain ⟨hcn, hpc1⟩ : c.2.2.2 = none ∧ pc = p2 := by
        rcases pIf_of hif with ⟨z, -⟩ | ⟨-, z1, z, -⟩
        · exact absurd z q
        · exact ⟨by rw [z1], z⟩
      refine G.iconst (v := nI 1) dX6_goesAlong_210 (by decide) ?_
      refine G.goto (tgt := 215) dX6_goesAlong_211 (by decide) ?_
      first
      | exact k215 _ true false (hx.ms (by decide)) (h22.trans (by rw [hpc1])) rfl h44 h45 (fun hlive => ⟨by rw [hcn]; rfl, hl hlive⟩)
      | exact k215 _ true _ hxx g2 g3 j44 j45 (fun hlive => ⟨(congrArg (fun z => z && !(zB live false (tt e))) c_207).symm.trans (hz hlive), jl hlive⟩)
      | exact k215 _ false _ hxx g2 g3 j44 j45 (fun hlive => ⟨(congrArg (fun z => z && !(zB live false (tt e))) c_207).symm.trans (hz hlive), jl hlive⟩)
    · have q := of_decide_eq_true c_199
      rw [if_pos q]
      obtain ⟨tt, q2, q3⟩ : ∃ tt, pTest true tk 8 (p2 + 1) l1 = .inr (tt, pc, lc) ∧ c.2.2.2 = some tt := by
        rcases pIf_of hif with ⟨-, tt, q2, q3⟩ | ⟨q1, -⟩
        · exact ⟨tt, q2, by rw [q3]⟩
        · exact absurd q q1
      refine G.aload_n0 dX6_goesAlong_202 ?_
      refine G.iload_n2 dX6_goesAlong_203 ?_
      refine G.mcall (f' := fX6_testOf (72)) q2151 (ck_X6_testOf _) (e_tests (ord := true) (by omega) htk hen 8 (by omega) _ (p2 + 1) l1 tt pc lc live false ((hC.mv (mX.rf.ms (by decide))).mv (mX.rf.ms (by decide))) q2 rfl rfl) dX6_goesAlong_204 (rI.k fun r_204 M_204 h_204 => ?_)
      obtain ⟨rb, rfl, g1, g2, g3, g4⟩ := h_204
      have hz : live = true → (rb && !(zB live false (tt e))) = zHolds c.2.2.2 e := by
        intro hlive
        subst hlive
        rw [q3]
        show (rb && !(tt e).isNone) = (tt e == some true)
        cases h9 : tt e with
        | none => cases rb <;> rfl
        | some w => rw [g4 rfl rfl w h9]; cases w <;> rfl
      have hxx : mX [8, 22, 23, 24, 44, 45, 46, 47, 48] [25] M M_204 := ((hx.ms (by decide)).ms (by decide)).tr g1 (by simp) (by simp)
      have j44 : M_204.1 44 = c.2.2.1 := (g1.1 44 (by decide)).trans h44
      have j45 : M_204.1 45 = nI h := (g1.1 45 (by decide)).trans h45
      have jl : live = true → M_204.1 46 = bI (zTold s e).isSome ∧ ∀ s1 v, s = some s1 → s1 e = some v → M_204.2.1 = v := by
        intro hlive
        rw [g1.1 46 (by decide), g1.2.1 (by decide)]
        exact hl hlive
      refine G.ifb_eq (tgt := 214) dX6_goesAlong_207 (by decide) (fun c_207 => ?_) (fun c_207 => ?_)
      · refine G.iconst (v := nI 0) dX6_goesAlong_214 (by decide) ?_
        first
        | exact k215 _ true false (hx.ms (by decide)) (h22.trans (by rw [hpc1])) rfl h44 h45 (fun hlive => ⟨by rw [hcn]; rfl, hl hlive⟩)
        | exact k215 _ true _ hxx g2 g3 j44 j45 (fun hlive => ⟨(congrArg (fun z => z && !(zB live false (tt e))) c_207).symm.trans (hz hlive), jl hlive⟩)
        | exact k215 _ false _ hxx g2 g3 j44 j45 (fun hlive => ⟨(congrArg (fun z => z && !(zB live false (tt e))) c_207).symm.trans (hz hlive), jl hlive⟩)
      · refine G.iconst (v := nI 1) dX6_goesAlong_210 (by decide) ?_
        refine G.goto (tgt := 215) dX6_goesAlong_211 (by decide) ?_
        first
        | exact k215 _ true false (hx.ms (by decide)) (h22.trans (by rw [hpc1])) rfl h44 h45 (fun hlive => ⟨by rw [hcn]; rfl, hl hlive⟩)
        | exact k215 _ true _ hxx g2 g3 j44 j45 (fun hlive => ⟨(congrArg (fun z => z && !(zB live false (tt e))) c_207).symm.trans (hz hlive), jl hlive⟩)
        | exact k215 _ false _ hxx g2 g3 j44 j45 (fun hlive => ⟨(congrArg (fun z => z && !(zB live false (tt e))) c_207).symm.trans (hz hlive), jl hlive⟩)
  have k127 : ∀ (M2 : MM) (v : Int64), mX [8, 22, 23, 24, 44, 45, 46, 47, 48] [25] M M2 → EvC M2 2400 N tk true e n → M2.1 22 = nI (2400 + p1) → M2.1 24 = bI (zB live false (zTold s e)) → M2.1 45 = nI h → (live = true → ∀ s1 w, s = some s1 → s1 e = some w → v = w) → G E fX6_goesAlong (mFin E fX6_goesAlong L ph (rV fun M' => mX [8, 22, 23, 24, 44, 45, 46, 47, 48] [25] M M' ∧ M'.1 22 = nI (2400 + pc + 1) ∧ M'.1 44 = c.2.2.1 ∧ M'.1 45 = nI h ∧ (live = true → M'.1 46 = bI (zTold s e).isSome ∧ (∀ s1 v, s = some s1 → s1 e = some v → M'.2.1 = v) ∧ M'.1 47 = bI (zHolds c.2.2.2 e)))) 127 [some (.ref (L.1 52)), some (.int (nI (2400 + N))), some (.int (bI live))] [.long v, .ref (L.1 52)] (movl L M2 ph) 0 0 := by
    intro M2 v hx hC h22 h24 h45 hl
    have k146 : ∀ (q : Int32), (live = true → q = bI (zTold s e).isSome) → G E fX6_goesAlong (mFin E fX6_goesAlong L ph (rV fun M' => mX [8, 22, 23, 24, 44, 45, 46, 47, 48] [25] M M' ∧ M'.1 22 = nI (2400 + pc + 1) ∧ M'.1 44 = c.2.2.1 ∧ M'.1 45 = nI h ∧ (live = true → M'.1 46 = bI (zTold s e).isSome ∧ (∀ s1 v, s = some s1 → s1 e = some v → M'.2.1 = v) ∧ M'.1 47 = bI (zHolds c.2.2.2 e)))) 146 [some (.ref (L.1 52)), some (.int (nI (2400 + N))), some (.int (bI live))] [] (movl L (ms (msl M2 v) 46 q) ph) 0 0 := by
      intro q hq
      have hx3 : mX [8, 22, 23, 24, 44, 45, 46, 47, 48] [25] M (ms (ms (msl M2 v) 46 q) 44 (nI 1)) := ((hx.msl (by decide)).ms (by decide)).ms (by decide)
      have hC3 : EvC (ms (ms (msl M2 v) 46 q) 44 (nI 1)) 2400 N tk true e n := hC.mw (((mX.rf.msl (by decide)).ms (by decide)).ms (by decide))
      have hl3 : live = true → q = bI (zTold s e).isSome ∧ ∀ s1 w, s = some s1 → s1 e = some w → v = w := fun z => ⟨hq z, hl z⟩
      refine G.aload_n0 dX6_goesAlong_146 ?_
      refine G.iconst (v := nI 1) dX6_goesAlong_147 (by decide) ?_
      refine G.mputi 44 fp_X6_430 dX6_goesAlong_148 ?_
      refine G.aload_n0 dX6_goesAlong_151 ?_
      refine G.bipush (v := nI 29) dX6_goesAlong_152 (by decide) ?_
      refine G.mcall (f' := fX6_passes0) q2140 ck_X6_passes0 (c_X6_passes0 (pos := p1) (nI 29) hC3 hp1 h22) dX6_goesAlong_154 (rI.k fun r_154 M_154 h_154 => ?_)
      obtain ⟨e_154, h_154⟩ := h_154; replace e_154 := e_154.symm; replace h_154 := h_154.symm; subst e_154; subst h_154
      refine G.ifb_eq (tgt := 187) dX6_goesAlong_157 (by decide) (fun c_157 => ?_) (fun c_157 => ?_)
      · have q157 := of_decide_eq_false c_157
        rw [if_neg q157]
        obtain ⟨ct, hif⟩ : c.2.2.1 = nI 1 ∧ pIf true tk h s c.2.2.1 p1 l1 = .inr (c, pc, lc) := by
          rcases pTimes_of hT with ⟨z, -⟩ | ⟨-, z⟩
          · exact absurd z q157
          · have ct : c.2.2.1 = 1 := by
              rcases pIf_of z with ⟨-, t, -, y⟩ | ⟨-, y, -⟩ <;> rw [y]
            exact ⟨ct, by rw [ct]; exact z⟩
        first
        | exact k187 _ p1 hx3 hC3 hp1 hif h22 ct.symm h45 hl3
        | exact k187 _ (p1 + 2) (((hx3.ms (by decide)).ms (by decide)).ms (by decide)) (hC3.mw (((mX.rf.ms (by decide)).ms (by decide)).ms (by decide))) (by omega) hif rfl rfl h45 hl3
      · have q157 := of_decide_eq_true c_157
        rw [if_pos q157]
        obtain ⟨t50, ct, hif⟩ : tk.1 (p1 + 1) = nI 50 ∧ c.2.2.1 = tk.2 (p1 + 1) ∧ pIf true tk h s c.2.2.1 (p1 + 2) l1 = .inr (c, pc, lc) := by
          rcases pTimes_of hT with ⟨-, z1, z2, z⟩ | ⟨z, -⟩
          · have ct : c.2.2.1 = tk.2 (p1 + 1) := by
              rcases pIf_of z with ⟨-, t, -, y⟩ | ⟨-, y, -⟩ <;> rw [y]
            exact ⟨z1, ct, by rw [ct]; exact z⟩
          · exact absurd q157 z
        have hpN := tk_in htk (by decide) (by decide) t50
        refine G.aload_n0 dX6_goesAlong_160 ?_
        refine G.aload_n0 dX6_goesAlong_161 ?_
        refine G.mgeta 2 fl_X6_24 dX6_goesAlong_162 ?_
        refine G.sipush (v := nI 3066) dX6_goesAlong_165 (by decide) ?_
        refine G.aload_n0 dX6_goesAlong_168 ?_
        refine G.mgeti 22 fl_X6_248 dX6_goesAlong_169 ?_
        rw [show (ms (ms (ms (msl M2 v) 46 q) 44 (nI 1)) 22 (nI (2400 + p1 + 1))).1 22 = nI (2400 + p1 + 1) from rfl]
        first | with_reducible refine G.iaddn dX6_goesAlong_172 ?_ | refine G.iadd dX6_goesAlong_172 ?_
        refine G.miald (n := 5866) 2 (3066 + (2400 + (p1 + 1))) dX6_goesAlong_173 rfl (by omega) ?_
        rw [show (ms (ms (ms (msl M2 v) 46 q) 44 (nI 1)) 22 (nI (2400 + p1 + 1))).2.2.1 2 (3066 + (2400 + (p1 + 1))) = c.2.2.1 from ((hC3.2.2.2.2.1 (p1 + 1) hpN).trans ct.symm)]
        refine G.mputi 44 fp_X6_430 dX6_goesAlong_174 ?_
        refine G.aload_n0 dX6_goesAlong_177 ?_
        refine G.dup dX6_goesAlong_178 rfl ?_
        refine G.mgeti 22 fl_X6_248 dX6_goesAlong_179 ?_
        rw [show (ms (ms (ms (ms (msl M2 v) 46 q) 44 (nI 1)) 22 (nI (2400 + p1 + 1))) 44 c.2.2.1).1 22 = nI (2400 + p1 + 1) from rfl]
        refine G.iconst (v := nI 1) dX6_goesAlong_182 (by decide) ?_
        first | with_reducible refine G.iaddn dX6_goesAlong_183 ?_ | refine G.iadd dX6_goesAlong_183 ?_
        refine G.mputi 22 fp_X6_248 dX6_goesAlong_184 ?_
        first
        | exact k187 _ p1 hx3 hC3 hp1 hif h22 ct.symm h45 hl3
        | exact k187 _ (p1 + 2) (((hx3.ms (by decide)).ms (by decide)).ms (by decide)) (hC3.mw (((mX.rf.ms (by decide)).ms (by decide)).ms (by decide))) (by omega) hif rfl rfl h45 hl3
    refine G.mputl fp_X6_423 dX6_goesAlong_127 ?_
    refine G.aload_n0 dX6_goesAlong_130 ?_
    refine G.aload_n0 dX6_goesAlong_131 ?_
    refine G.mgeti 24 fl_X6_258 dX6_goesAlong_132 ?_
    rw [show (msl M2 v).1 24 = bI (zB live false (zTold s e)) from h24]
    refine G.ifb_ne (tgt := 142) dX6_goesAlong_135 (by decide) (fun c_135 => ?_) (fun c_135 => ?_)
    · refine G.iconst (v := nI 0) dX6_goesAlong_142 (by decide) ?_
      refine G.mputi 46 fp_X6_427 dX6_goesAlong_143 ?_ (hn := by first | rfl | exact bI_nar _) (hfit := by first | rfl | exact bI_fit _)
      first
      | (refine k146 (nI 0) (fun z => ?_)
         subst z
         rw [zB_n] at c_135
         rw [← Option.not_isNone, c_135]
         rfl)
      | (refine k146 (nI 1) (fun z => ?_)
         subst z
         rw [zB_n] at c_135
         rw [← Option.not_isNone, c_135]
         rfl)
    · refine G.iconst (v := nI 1) dX6_goesAlong_138 (by decide) ?_
      refine G.goto (tgt := 143) dX6_goesAlong_139 (by decide) ?_
      refine G.mputi 46 fp_X6_427 dX6_goesAlong_143 ?_ (hn := by first | rfl | exact bI_nar _) (hfit := by first | rfl | exact bI_fit _)
      first
      | (refine k146 (nI 0) (fun z => ?_)
         subst z
         rw [zB_n] at c_135
         rw [← Option.not_isNone, c_135]
         rfl)
      | (refine k146 (nI 1) (fun z => ?_)
         subst z
         rw [zB_n] at c_135
         rw [← Option.not_isNone, c_135]
         rfl)
  have k73 : ∀ M1 : MM, mX [8, 22, 23, 24, 44, 45, 46, 47, 48] [25] M M1 → M1.1 8 = nI 19 → M1.1 23 = nI (2400 + N) → (∀ i, i < 5 → M1.2.2.1 25 i = ordA (M.2.2.1 2) done i) → G E fX6_goesAlong (mFin E fX6_goesAlong L ph (rV fun M' => mX [8, 22, 23, 24, 44, 45, 46, 47, 48] [25] M M' ∧ M'.1 22 = nI (2400 + pc + 1) ∧ M'.1 44 = c.2.2.1 ∧ M'.1 45 = nI h ∧ (live = true → M'.1 46 = bI (zTold s e).isSome ∧ (∀ s1 v, s = some s1 → s1 e = some v → M'.2.1 = v) ∧ M'.1 47 = bI (zHolds c.2.2.2 e)))) 73 [some (.ref (L.1 52)), some (.int (nI (2400 + N))), some (.int (bI live))] [] (movl L M1 ph) 0 0 := by
    intro M1 hx h8 h23 h25
    have e2 : M1.2.2.1 2 = M.2.2.1 2 := hx.2.2.1 2 (by decide)
    have ew : ∀ k, sWorth M1 k = wOf (M.2.2.1 2) k := fun k => by unfold sWorth wOf; rw [e2]
    have hC : EvC M1 2400 N tk true e n := by
      refine ⟨by omega, h23, h8, fun i hi => by rw [e2]; exact hc1 i hi, fun i hi => by rw [e2]; exact hc2 i hi, htk, hen, fun i hi h5 => ?_, h10, by rw [e2]; exact hK.1.2, fun k hk => by rw [hps.1 k hk, ew], fun k hk => by rw [hps.2 k hk, e2]⟩
      rw [h25 i (h5 rfl), ← hE]
      exact (if_pos hi).symm
    have hx3 : ∀ x y z w, mX [8, 22, 23, 24, 44, 45, 46, 47, 48] [25] M (ms (ms (ms (ms M1 22 x) 45 y) 22 z) 24 w) := fun x y z w => (((hx.ms (by decide)).ms (by decide)).ms (by decide)).ms (by decide)
    have hC3 : ∀ x y z w, EvC (ms (ms (ms (ms M1 22 x) 45 y) 22 z) 24 w) 2400 N tk true e n := fun x y z w => hC.mw ((((mX.rf.ms (by decide)).ms (by decide)).ms (by decide)).ms (by decide))
    refine G.aload_n0 dX6_goesAlong_73 ?_
    refine G.aload_n0 dX6_goesAlong_74 ?_
    refine G.mgeti 43 fl_X6_414 dX6_goesAlong_75 ?_
    rw [show M1.1 43 = nI (2400 + pos) from (hx.1 43 (by decide)).trans h43]
    refine G.mputi 22 fp_X6_248 dX6_goesAlong_78 ?_
    refine G.aload_n0 dX6_goesAlong_81 ?_
    refine G.aload_n0 dX6_goesAlong_82 ?_
    refine G.aload_n0 dX6_goesAlong_83 ?_
    refine G.mgeti 22 fl_X6_248 dX6_goesAlong_84 ?_
    rw [show (ms M1 22 (nI (2400 + pos))).1 22 = nI (2400 + pos) from rfl]
    refine G.mcall (f' := fX6_codeAt) q2124 ck_X6_codeAt (c_X6_codeAt (pos := pos) (hC.mw (mX.rf.ms (by decide))) (by omega)) dX6_goesAlong_87 (rI.k fun r_87 M_87 h_87 => ?_)
    obtain ⟨e_87, h_87⟩ := h_87; replace e_87 := e_87.symm; replace h_87 := h_87.symm; subst e_87; subst h_87
    rw [hpos]
    refine G.mputi 45 fp_X6_420 dX6_goesAlong_90 ?_
    refine G.aload_n0 dX6_goesAlong_93 ?_
    refine G.dup dX6_goesAlong_94 rfl ?_
    refine G.mgeti 22 fl_X6_248 dX6_goesAlong_95 ?_
    rw [show (ms (ms M1 22 (nI (2400 + pos))) 45 (nI h)).1 22 = nI (2400 + pos) from rfl]
    refine G.iconst (v := nI 1) dX6_goesAlong_98 (by decide) ?_
    first | with_reducible refine G.iaddn dX6_goesAlong_99 ?_ | refine G.iadd dX6_goesAlong_99 ?_
    refine G.mputi 22 fp_X6_248 dX6_goesAlong_100 ?_
    refine G.aload_n0 dX6_goesAlong_103 ?_
    refine G.iconst (v := nI 0) dX6_goesAlong_104 (by decide) ?_
    refine G.mputi 24 fp_X6_258 dX6_goesAlong_105 ?_ (hn := by first | rfl | exact bI_nar _) (hfit := by first | rfl | exact bI_fit _)
    refine G.aload_n0 dX6_goesAlong_108 ?_
    refine G.aload_n0 dX6_goesAlong_109 ?_
    refine G.mgeti 45 fl_X6_420 dX6_goesAlong_110 ?_
    rw [show (ms (ms (ms (ms M1 22 (nI (2400 + pos))) 45 (nI h)) 22 (nI (2400 + pos + 1))) 24 (nI 0)).1 45 = nI h from rfl]
    refine G.bipush (v := nI 28) dX6_goesAlong_113 (by decide) ?_
    refine G.icmp_ne (tgt := 122) dX6_goesAlong_115 (by decide) (fun c_115 => ?_) (fun c_115 => ?_)
    · have n_115 : ¬ h = 28 := fun z => c_115 (congrArg nI z)
      obtain ⟨s1, hs1, hs2⟩ := (hs.resolve_left (fun z => n_115 z.1)).2
      refine G.aload_n0 dX6_goesAlong_122 ?_
      refine G.iload_n2 dX6_goesAlong_123 ?_
      refine G.mcall (f' := fX6_sumOf (36)) q2128 (ck_X6_sumOf _) (e_sums htk hen 8 _ (pos + 1) lv s1 p1 l1 live false (hC3 _ _ _ _) hs2 rfl rfl) dX6_goesAlong_124 (rJ.k fun r_124 M_124 h_124 => ?_)
      obtain ⟨g1, g2, g3, g4⟩ := h_124
      first
      | exact k127 _ _ ((hx3 _ _ _ _).tr g1 (by simp) (by simp)) ((hC3 _ _ _ _).mv g1) g2 (by rw [g3, hs1]; rfl) (g1.1 45 (by decide)) (fun hlive s2 w z1 z2 => by rw [hs1] at z1; cases z1; exact g4 hlive rfl w z2)
      | exact k127 _ _ (hx3 _ _ _ _) (hC3 _ _ _ _) (by rw [hs2]; rfl) (by rw [hs1]; cases live <;> rfl) rfl (fun hlive s2 w z1 z2 => by rw [hs1] at z1; cases z1)
    · have n_115 : h = 28 := (nI_inj (a := h) (b := 28) (by omega) (by omega)).mp c_115
      obtain ⟨-, hs1, hs2, -⟩ := hs.resolve_right (fun z => by omega)
      refine G.lconst (v := 0) dX6_goesAlong_118 (by decide) ?_
      refine G.goto (tgt := 127) dX6_goesAlong_119 (by decide) ?_
      first
      | exact k127 _ _ ((hx3 _ _ _ _).tr g1 (by simp) (by simp)) ((hC3 _ _ _ _).mv g1) g2 (by rw [g3, hs1]; rfl) (g1.1 45 (by decide)) (fun hlive s2 w z1 z2 => by rw [hs1] at z1; cases z1; exact g4 hlive rfl w z2)
      | exact k127 _ _ (hx3 _ _ _ _) (hC3 _ _ _ _) (by rw [hs2]; rfl) (by rw [hs1]; cases live <;> rfl) rfl (fun hlive s2 w z1 z2 => by rw [hs1] at z1; cases z1)
  refine Ct.of [some (.ref (L.1 52)), some (.int (nI (2400 + N))), some (.int (bI live))] rfl (Nat.le_of_ble_eq_true rfl) (show plainName RX6 = true by decide +kernel) rfl ?_
  refine G.aload_n0 dX6_goesAlong_0 ?_
  refine G.bipush (v := nI 19) dX6_goesAlong_1 (by decide) ?_
  refine G.mputi 8 fp_X6_220 dX6_goesAlong_3 ?_
  refine G.aload_n0 dX6_goesAlong_6 ?_
  refine G.iload_n1 dX6_goesAlong_7 ?_
  refine G.mputi 23 fp_X6_245 dX6_goesAlong_8 ?_
  refine G.aload_n0 dX6_goesAlong_11 ?_
  refine G.mgeta 25 fl_X6_59 dX6_goesAlong_12 ?_
  refine G.iconst (v := nI 0) dX6_goesAlong_15 (by decide) ?_
  refine G.aload_n0 dX6_goesAlong_16 ?_
  refine G.mgeta 2 fl_X6_24 dX6_goesAlong_17 ?_
  refine G.bipush (v := nI 33) dX6_goesAlong_20 (by decide) ?_
  refine G.miald (n := 5866) 2 33 dX6_goesAlong_22 rfl (by omega) ?_
  refine G.miast (n := 10) 25 0 dX6_goesAlong_23 rfl (by omega) ?_
  refine G.aload_n0 dX6_goesAlong_24 ?_
  refine G.mgeta 25 fl_X6_59 dX6_goesAlong_25 ?_
  refine G.iconst (v := nI 1) dX6_goesAlong_28 (by decide) ?_
  refine G.aload_n0 dX6_goesAlong_29 ?_
  refine G.mgeta 2 fl_X6_24 dX6_goesAlong_30 ?_
  refine G.bipush (v := nI 30) dX6_goesAlong_33 (by decide) ?_
  refine G.miald (n := 5866) 2 30 dX6_goesAlong_35 rfl (by omega) ?_
  refine G.miast (n := 10) 25 1 dX6_goesAlong_36 rfl (by omega) ?_
  refine G.aload_n0 dX6_goesAlong_37 ?_
  refine G.mgeta 25 fl_X6_59 dX6_goesAlong_38 ?_
  refine G.iconst (v := nI 2) dX6_goesAlong_41 (by decide) ?_
  refine G.aload_n0 dX6_goesAlong_42 ?_
  refine G.mgeta 2 fl_X6_24 dX6_goesAlong_43 ?_
  refine G.bipush (v := nI 31) dX6_goesAlong_46 (by decide) ?_
  refine G.miald (n := 5866) 2 31 dX6_goesAlong_48 rfl (by omega) ?_
  refine G.miast (n := 10) 25 2 dX6_goesAlong_49 rfl (by omega) ?_
  refine G.aload_n0 dX6_goesAlong_50 ?_
  refine G.mgeta 25 fl_X6_59 dX6_goesAlong_51 ?_
  refine G.iconst (v := nI 3) dX6_goesAlong_54 (by decide) ?_
  refine G.aload_n0 dX6_goesAlong_55 ?_
  refine G.mgeti 42 fl_X6_411 dX6_goesAlong_56 ?_
  rw [show ∀ (X : MM) a x, (ma X 25 a x).1 42 = X.1 42 from fun _ _ _ => rfl, show ∀ (X : MM) a x, (ma X 25 a x).1 42 = X.1 42 from fun _ _ _ => rfl, show ∀ (X : MM) a x, (ma X 25 a x).1 42 = X.1 42 from fun _ _ _ => rfl, show (ms (ms M 8 (nI 19)) 23 (nI (2400 + N))).1 42 = nI done from h42]
  refine G.miast (n := 10) 25 3 dX6_goesAlong_59 rfl (by omega) ?_
  refine G.aload_n0 dX6_goesAlong_60 ?_
  refine G.mgeta 25 fl_X6_59 dX6_goesAlong_61 ?_
  refine G.iconst (v := nI 4) dX6_goesAlong_64 (by decide) ?_
  refine G.aload_n0 dX6_goesAlong_65 ?_
  refine G.mgeta 2 fl_X6_24 dX6_goesAlong_66 ?_
  refine G.bipush (v := nI 32) dX6_goesAlong_69 (by decide) ?_
  refine G.miald (n := 5866) 2 32 dX6_goesAlong_71 rfl (by omega) ?_
  refine G.miast (n := 10) 25 4 dX6_goesAlong_72 rfl (by omega) ?_
  refine k73 _ (((((((mX.rf.ms (by decide)).ms (by decide)).ma (by decide)).ma (by decide)).ma (by decide)).ma (by decide)).ma (by decide)) rfl rfl (fun i hi => ?_)
  rcases (show i = 0 ∨ i = 1 ∨ i = 2 ∨ i = 3 ∨ i = 4 by omega) with rfl | rfl | rfl | rfl | rfl <;> rfl
end Orders
