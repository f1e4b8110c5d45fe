/-! LITSTRANGERS TELLS: what lies in a heap as a sum, a test -/
def oChar (k : Nat) : Prop := k = 43 ∨ k = 45 ∨ k = 42 ∨ k = 47 ∨ k = 37
def cChar (k : Nat) : Prop := k = 60 ∨ k = 62 ∨ k = 61
/-- the words of laws lie in another order here: day, fog, mood behind the seventh -/
def wPm (ord : Bool) (w : Nat) : Nat := if ord then w else if w = 7 then 9 else if w = 8 then 7 else if w = 9 then 8 else w
/-- at a lies a sum that means s; f: how high it is at most -/
def rSm (x0 : Nat) (ord : Bool) (ph : HP) : Nat → Nat → Sm → Prop
  | 0, _, _ => False
  | f + 1, a, s => (∃ v : Int32, ph a = some (.inr (12, [.int v])) ∧ s = fun _ => some v.toInt64) ∨ (∃ w, w < (if ord then 5 else 10) ∧ ph a = some (.inr (13, [.int (nI w)])) ∧ s = fun e => some (e.1 (wPm ord w))) ∨ (ord = true ∧ ∃ (b : Bool) (p : Nat), p < 10 ∧ ph a = some (.inr (14, [.int (bI b), .int (nI p), .ref x0])) ∧ s = fun e => some (if b then e.2.1 p else e.2.2 p)) ∨ (∃ b c k s1 s2, ph a = some (.inr (15, [.ref b, .ref c, .int (nI k)])) ∧ oChar k ∧ rSm x0 ord ph f b s1 ∧ rSm x0 ord ph f c s2 ∧ s = zBin (nI (100 + k)) s1 s2)
def rAll (one : Nat → Ts → Prop) : List Nat → List Ts → Prop
  | [], [] => True
  | a :: as, t :: ts => one a t ∧ rAll one as ts
  | _, _ => False
/-- a row of tests: all of them, or any; none is asked behind one that tells -/
def zRow (all : Bool) : List Ts → Ts
  | [], _ => some all
  | t :: ts, e => match t e with
    | none => none
    | some v => if v = all then zRow all ts e else some v
def rTs (x0 : Nat) (ord : Bool) (ph : HP) : Nat → Nat → Ts → Prop
  | 0, _, _ => False
  | f + 1, a, t => (∃ b c k s1 s2, ph a = some (.inr (18, [.ref b, .ref c, .int (nI k)])) ∧ cChar k ∧ rSm x0 ord ph 60 b s1 ∧ rSm x0 ord ph 60 c s2 ∧ t = zCmp (nI (100 + k)) s1 s2) ∨ (∃ b t1, ph a = some (.inr (19, [.ref b])) ∧ rTs x0 ord ph f b t1 ∧ t = zNot true t1) ∨ (∃ (all : Bool) (b n : Nat) (g : Nat → Option Nat) (as : List Nat) (ts : List Ts), ph a = some (.inr (20, [.int (bI all), .ref b])) ∧ ph b = some (.inl (5, n, .inr (.inr (.inr (.inr g))))) ∧ n < 1000 ∧ as.length = n ∧ (∀ i (h : i < as.length), g i = some as[i]) ∧ rAll (rTs x0 ord ph f) as ts ∧ t = zRow all ts)
theorem xs_id {D : XD} {k j : Nat} {v : Int32} (h : D.1 k j = v) : xs D k j v = D := by
  refine Prod.ext (funext fun i => ?_) rfl
  show va_up D.1 k (upd (D.1 k) j v) i = D.1 i
  unfold va_up
  split
  · rename_i q
    rw [q]
    funext z
    unfold upd
    split
    · rename_i q2; rw [q2, h]
    · rfl
  · rfl
theorem xs_xs {D : XD} {k j : Nat} {v w : Int32} : xs (xs D k j v) k j w = xs D k j w := by
  refine Prod.ext (funext fun i => ?_) rfl
  show va_up (va_up D.1 k (upd (D.1 k) j v)) k (upd (va_up D.1 k (upd (D.1 k) j v) k) j w) i = va_up D.1 k (upd (D.1 k) j w) i
  unfold va_up
  split
  · rw [if_pos rfl, upd_upd]
  · rfl
theorem xs_1 {D : XD} {k j : Nat} {v : Int32} : (xs D k j v).1 k j = v := by rw [xs_at, if_pos rfl, if_pos rfl]
/-- a sum that tells: what each class's method does -/
def smC (E : JE) (L : XL) (D : XD) (ph : HP) (kq d a : Nat) (Q : Int64 → HP → Prop) : Prop := (∀ v, ph a = some (.inr (12, v)) → Ct E fX12_of [.ref a, .ref (L.1 kq)] (xov L D ph) (pJ Q) jNo) ∧ (∀ v, ph a = some (.inr (13, v)) → Ct E fX13_of [.ref a, .ref (L.1 kq)] (xov L D ph) (pJ Q) jNo) ∧ (∀ v, ph a = some (.inr (14, v)) → Ct E fX14_of [.ref a, .ref (L.1 kq)] (xov L D ph) (pJ Q) jNo) ∧ (∀ v, ph a = some (.inr (15, v)) → Ct E (fX15_of d) [.ref a, .ref (L.1 kq)] (xov L D ph) (pJ Q) jNo) ∧ ∃ ci v, ph a = some (.inr (ci, v)) ∧ (ci = 12 ∨ ci = 13 ∨ ci = 14 ∨ ci = 15)
/-- a call of a sum, whichever it is -/
theorem G.sum {E : JE} {f : FS} {F : JFin} {pc : Nat} {ls : List (Option Value)} {st : List Value} {ph : HP} {kc ks : Nat} {L : XL} {D : XD} {idx kq d a : Nat} {Q : Int64 → HP → Prop} {x : MethodName} (hx : x = ⟨"LitStrangers$Sum", "of", "(LLitStrangers$Asked;)J"⟩) (hB : xdis L D ph) (hS : smC E L D ph kq d a Q)
    (c12 : CkU f.1.cls idx "LitStrangers$Amount" "LitStrangers$Sum" x fX12_of 1) (c13 : CkU f.1.cls idx "LitStrangers$Part" "LitStrangers$Sum" x fX13_of 1) (c14 : CkU f.1.cls idx "LitStrangers$OfPerson" "LitStrangers$Sum" x fX14_of 1) (c15 : ∀ d, CkU f.1.cls idx "LitStrangers$Joined" "LitStrangers$Sum" x (fX15_of d) 1)
    (hd : decode f.2.1 pc = .ok (.invokevirtual idx, 3)) (k : ∀ r h', Q r h' → G E f F (pc + 3) ls (.long r :: st) h' kc ks) (hst : (st.map fun v => v.category).sum ≤ 8 := by exact Nat.le_of_ble_eq_true rfl)
    (h12 : jroom fX12_of f) (h13 : jroom fX13_of f) (h14 : jroom fX14_of f) (h15 : jroom (fX15_of d) f) (hk : kc ≤ f.2.2.2.2.1.cells ∧ ks ≤ f.2.2.2.2.1.slots := by exact ⟨Nat.le_of_ble_eq_true rfl, Nat.le_of_ble_eq_true rfl⟩) : G E f F pc ls (.ref (L.1 kq) :: .ref a :: st) (xov L D ph) kc ks := by
  obtain ⟨s12, s13, s14, s15, ci, v, ha, hc⟩ := hS
  rcases hc with rfl | rfl | rfl | rfl
  · exact G.callU (rest := st) c12 (s12 v ha) (xbase hB ha rfl) hd jno (pJ.k k) rfl rfl rfl hst h12 hk
  · exact G.callU (rest := st) c13 (s13 v ha) (xbase hB ha rfl) hd jno (pJ.k k) rfl rfl rfl hst h13 hk
  · exact G.callU (rest := st) c14 (s14 v ha) (xbase hB ha rfl) hd jno (pJ.k k) rfl rfl rfl hst h14 hk
  · exact G.callU (rest := st) (c15 d) (s15 v ha) (xbase hB ha rfl) hd jno (pJ.k k) rfl rfl rfl hst h15 hk
def tsC (E : JE) (L : XL) (D : XD) (ph : HP) (kq d a : Nat) (Q : Int32 → HP → Prop) : Prop := (∀ v, ph a = some (.inr (18, v)) → Ct E fX18_of [.ref a, .ref (L.1 kq)] (xov L D ph) (pI Q) jNo) ∧ (∀ v, ph a = some (.inr (19, v)) → Ct E (fX19_of d) [.ref a, .ref (L.1 kq)] (xov L D ph) (pI Q) jNo) ∧ (∀ v, ph a = some (.inr (20, v)) → Ct E (fX20_of d) [.ref a, .ref (L.1 kq)] (xov L D ph) (pI Q) jNo) ∧ ∃ ci v, ph a = some (.inr (ci, v)) ∧ (ci = 18 ∨ ci = 19 ∨ ci = 20)
theorem G.test {E : JE} {f : FS} {F : JFin} {pc : Nat} {ls : List (Option Value)} {st : List Value} {ph : HP} {kc ks : Nat} {L : XL} {D : XD} {idx kq d a : Nat} {Q : Int32 → HP → Prop} {x : MethodName} (hB : xdis L D ph) (hS : tsC E L D ph kq d a Q)
    (c18 : CkU f.1.cls idx "LitStrangers$Compared" "LitStrangers$Test" x fX18_of 1) (c19 : ∀ d, CkU f.1.cls idx "LitStrangers$Not" "LitStrangers$Test" x (fX19_of d) 1) (c20 : ∀ d, CkU f.1.cls idx "LitStrangers$Row" "LitStrangers$Test" x (fX20_of d) 1)
    (hd : decode f.2.1 pc = .ok (.invokevirtual idx, 3)) (k : ∀ r h', Q r h' → G E f F (pc + 3) ls (.int r :: st) h' kc ks) (hst : (st.map fun v => v.category).sum ≤ 8 := by exact Nat.le_of_ble_eq_true rfl)
    (h18 : jroom fX18_of f) (h19 : jroom (fX19_of d) f) (h20 : jroom (fX20_of d) f) (hk : kc ≤ f.2.2.2.2.1.cells ∧ ks ≤ f.2.2.2.2.1.slots := by exact ⟨Nat.le_of_ble_eq_true rfl, Nat.le_of_ble_eq_true rfl⟩) : G E f F pc ls (.ref (L.1 kq) :: .ref a :: st) (xov L D ph) kc ks := by
  obtain ⟨s18, s19, s20, ci, v, ha, hc⟩ := hS
  rcases hc with rfl | rfl | rfl
  · exact G.callU (rest := st) c18 (s18 v ha) (xbase hB ha rfl) hd jno (pI.k k) rfl rfl rfl hst h18 hk
  · exact G.callU (rest := st) (c19 d) (s19 v ha) (xbase hB ha rfl) hd jno (pI.k k) rfl rfl rfl hst h19 hk
  · exact G.callU (rest := st) (c20 d) (s20 v ha) (xbase hB ha rfl) hd jno (pI.k k) rfl rfl rfl hst h20 hk
