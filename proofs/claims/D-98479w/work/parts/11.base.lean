/-! BASE: booleans as ints, counted numbers, branches on booleans -/
theorem q_oi1 : Cond.instanceMethod objectInit ∈ lw_all := q171
theorem q_oi2 : Cond.code objectInit ⟨#[0xb1]⟩ 1 none ∈ lw_all := q172
def bI (b : Bool) : Int32 := match b with
  | true => nI 1
  | false => nI 0
theorem bI_nar (b : Bool) : narrow .boolean (.int (bI b)) = .int (bI b) := by cases b <;> rfl
theorem bI_fit (b : Bool) : fits .boolean (.int (bI b)) = true := by cases b <;> rfl
theorem bI_0 {b : Bool} : bI b = 0 ↔ b = false := by cases b <;> decide
theorem bI_n0 {b : Bool} : ¬ bI b = 0 ↔ b = true := by cases b <;> decide
theorem bI_t {p : Prop} {_ : Decidable p} (h : p) : nI 1 = bI (decide p) := by rw [decide_eq_true h]; rfl
theorem bI_f {p : Prop} {_ : Decidable p} (h : ¬ p) : nI 0 = bI (decide p) := by rw [decide_eq_false h]; rfl
theorem bI_tt {b : Bool} (h : b = true) : nI 1 = bI b := by rw [h]; rfl
theorem bI_ff {b : Bool} (h : b = false) : nI 0 = bI b := by rw [h]; rfl
theorem i_lt {x y : Int32} : x < y ↔ x.toInt < y.toInt := Int32.lt_iff_toInt_lt
theorem i_le {x y : Int32} : x ≤ y ↔ x.toInt ≤ y.toInt := Int32.le_iff_toInt_le
theorem i_eq {x y : Int32} : x = y ↔ x.toInt = y.toInt := Int32.toInt_inj.symm
theorem t_nI {k : Nat} (h : k < 2147483648) : (nI k).toInt = (k : Int) := nI_toInt (by omega)
theorem t_0 : (0 : Int32).toInt = 0 := rfl
theorem t_m1 : (-1 : Int32).toInt = -1 := rfl
theorem t_of {p : Int32} {n : Nat} (h0 : 0 ≤ p.toInt) (h1 : p.toInt < (n : Int)) : ∃ k, k < n ∧ p = nI k := by
  have hp := Int32.toInt_lt p
  refine ⟨p.toInt.toNat, by omega, ?_⟩
  rw [i_eq, t_nI (by omega)]
  omega
theorem t_sub {a b : Nat} (ha : a < 1073741824) (hb : b < 1073741824) : (nI a - nI b).toInt = (a : Int) - b := pk_sub_toInt (by omega) (by omega)
theorem nI_inj {a b : Nat} (ha : a < 2147483648) (hb : b < 2147483648) : nI a = nI b ↔ a = b := nI_eq (by omega) (by omega)
section Rows2
variable {E : JE} {f : FS} {F : JFin} {pc : Nat} {ls : List (Option Value)} {st : List Value} {ph : HP} {kc ks : Nat}
theorem G.ifb_eq {b : Bool} {off : Int} {tgt : Nat} (hd : decode f.2.1 pc = .ok (.ifCond .eq off, 3)) (ht : (pc : Int) + off = (tgt : Int)) (kt : b = false → G E f F tgt ls st ph kc ks) (kf : b = true → G E f F (pc + 3) ls st ph kc ks) : G E f F pc ls (.int (bI b) :: st) ph kc ks := G.if_eq hd ht (fun h => kt (bI_0.mp h)) (fun h => kf (bI_n0.mp h))
theorem G.ifb_ne {b : Bool} {off : Int} {tgt : Nat} (hd : decode f.2.1 pc = .ok (.ifCond .ne off, 3)) (ht : (pc : Int) + off = (tgt : Int)) (kt : b = true → G E f F tgt ls st ph kc ks) (kf : b = false → G E f F (pc + 3) ls st ph kc ks) : G E f F pc ls (.int (bI b) :: st) ph kc ks := G.if_ne hd ht (fun h => kt (bI_n0.mp h)) (fun h => kf (bI_0.mp h))
theorem G.ifnullq {o : Option Nat} {off : Int} {tgt : Nat} (hd : decode f.2.1 pc = .ok (.ifnull off, 3)) (ht : (pc : Int) + off = (tgt : Int)) (kt : o = none → G E f F tgt ls st ph kc ks) (kf : ∀ x, o = some x → G E f F (pc + 3) ls st ph kc ks) : G E f F pc ls (va_rf o :: st) ph kc ks := by
  cases o with
  | none => exact G.ifnullN hd ht (kt rfl)
  | some x => exact G.ifnull hd (kf x rfl)
theorem G.ifnonnullq {o : Option Nat} {off : Int} {tgt : Nat} (hd : decode f.2.1 pc = .ok (.ifnonnull off, 3)) (ht : (pc : Int) + off = (tgt : Int)) (kt : o = none → G E f F (pc + 3) ls st ph kc ks) (kf : ∀ x, o = some x → G E f F tgt ls st ph kc ks) : G E f F pc ls (va_rf o :: st) ph kc ks := by
  cases o with
  | none => exact G.ifnonnullN hd (kt rfl)
  | some x => exact G.ifnonnull hd ht (kf x rfl)
theorem G.iincn0 {r : List (Option Value)} {a : Nat} (hd : decode f.2.1 pc = .ok (.iinc 0 1, 3)) (k : G E f F (pc + 3) (some (.int (nI (a + 1))) :: r) st ph kc ks) (hm : 0 < f.2.2.1 := by exact Nat.le_of_ble_eq_true rfl) : G E f F pc (some (.int (nI a)) :: r) st ph kc ks := G.iinc0 hd (by rw [show Int32.ofInt 1 = nI 1 from rfl, nI_add]; exact k) (hm := hm)
theorem G.iincn1 {a0 : Option Value} {r : List (Option Value)} {a : Nat} (hd : decode f.2.1 pc = .ok (.iinc 1 1, 3)) (k : G E f F (pc + 3) (a0 :: some (.int (nI (a + 1))) :: r) st ph kc ks) (hn : jc2 a0 = false := by rfl) (hm : 1 < f.2.2.1 := by exact Nat.le_of_ble_eq_true rfl) : G E f F pc (a0 :: some (.int (nI a)) :: r) st ph kc ks := G.iinc1 hd (by rw [show Int32.ofInt 1 = nI 1 from rfl, nI_add]; exact k) (hn := hn) (hm := hm)
theorem G.iincn2 {a0 a1 : Option Value} {r : List (Option Value)} {a : Nat} (hd : decode f.2.1 pc = .ok (.iinc 2 1, 3)) (k : G E f F (pc + 3) (a0 :: a1 :: some (.int (nI (a + 1))) :: r) st ph kc ks) (hn : jc2 a1 = false := by rfl) (hm : 2 < f.2.2.1 := by exact Nat.le_of_ble_eq_true rfl) : G E f F pc (a0 :: a1 :: some (.int (nI a)) :: r) st ph kc ks := G.iinc2 hd (by rw [show Int32.ofInt 1 = nI 1 from rfl, nI_add]; exact k) (hn := hn) (hm := hm)
theorem G.iincn3 {a0 a1 a2 : Option Value} {r : List (Option Value)} {a : Nat} (hd : decode f.2.1 pc = .ok (.iinc 3 1, 3)) (k : G E f F (pc + 3) (a0 :: a1 :: a2 :: some (.int (nI (a + 1))) :: r) st ph kc ks) (hn : jc2 a2 = false := by rfl) (hm : 3 < f.2.2.1 := by exact Nat.le_of_ble_eq_true rfl) : G E f F pc (a0 :: a1 :: a2 :: some (.int (nI a)) :: r) st ph kc ks := G.iinc3 hd (by rw [show Int32.ofInt 1 = nI 1 from rfl, nI_add]; exact k) (hn := hn) (hm := hm)
theorem G.iincn4 {a0 a1 a2 a3 : Option Value} {r : List (Option Value)} {a : Nat} (hd : decode f.2.1 pc = .ok (.iinc 4 1, 3)) (k : G E f F (pc + 3) (a0 :: a1 :: a2 :: a3 :: some (.int (nI (a + 1))) :: r) st ph kc ks) (hn : jc2 a3 = false := by rfl) (hm : 4 < f.2.2.1 := by exact Nat.le_of_ble_eq_true rfl) : G E f F pc (a0 :: a1 :: a2 :: a3 :: some (.int (nI a)) :: r) st ph kc ks := G.iinc4 hd (by rw [show Int32.ofInt 1 = nI 1 from rfl, nI_add]; exact k) (hn := hn) (hm := hm)
theorem G.iincn5 {a0 a1 a2 a3 a4 : Option Value} {r : List (Option Value)} {a : Nat} (hd : decode f.2.1 pc = .ok (.iinc 5 1, 3)) (k : G E f F (pc + 3) (a0 :: a1 :: a2 :: a3 :: a4 :: some (.int (nI (a + 1))) :: r) st ph kc ks) (hn : jc2 a4 = false := by rfl) (hm : 5 < f.2.2.1 := by exact Nat.le_of_ble_eq_true rfl) : G E f F pc (a0 :: a1 :: a2 :: a3 :: a4 :: some (.int (nI a)) :: r) st ph kc ks := G.iinc5 hd (by rw [show Int32.ofInt 1 = nI 1 from rfl, nI_add]; exact k) (hn := hn) (hm := hm)
theorem G.iincn6 {a0 a1 a2 a3 a4 a5 : Option Value} {r : List (Option Value)} {a : Nat} (hd : decode f.2.1 pc = .ok (.iinc 6 1, 3)) (k : G E f F (pc + 3) (a0 :: a1 :: a2 :: a3 :: a4 :: a5 :: some (.int (nI (a + 1))) :: r) st ph kc ks) (hn : jc2 a5 = false := by rfl) (hm : 6 < f.2.2.1 := by exact Nat.le_of_ble_eq_true rfl) : G E f F pc (a0 :: a1 :: a2 :: a3 :: a4 :: a5 :: some (.int (nI a)) :: r) st ph kc ks := G.iinc6 hd (by rw [show Int32.ofInt 1 = nI 1 from rfl, nI_add]; exact k) (hn := hn) (hm := hm)
theorem G.iincn7 {a0 a1 a2 a3 a4 a5 a6 : Option Value} {r : List (Option Value)} {a : Nat} (hd : decode f.2.1 pc = .ok (.iinc 7 1, 3)) (k : G E f F (pc + 3) (a0 :: a1 :: a2 :: a3 :: a4 :: a5 :: a6 :: some (.int (nI (a + 1))) :: r) st ph kc ks) (hn : jc2 a6 = false := by rfl) (hm : 7 < f.2.2.1 := by exact Nat.le_of_ble_eq_true rfl) : G E f F pc (a0 :: a1 :: a2 :: a3 :: a4 :: a5 :: a6 :: some (.int (nI a)) :: r) st ph kc ks := G.iinc7 hd (by rw [show Int32.ofInt 1 = nI 1 from rfl, nI_add]; exact k) (hn := hn) (hm := hm)
theorem G.iincn8 {a0 a1 a2 a3 a4 a5 a6 a7 : Option Value} {r : List (Option Value)} {a : Nat} (hd : decode f.2.1 pc = .ok (.iinc 8 1, 3)) (k : G E f F (pc + 3) (a0 :: a1 :: a2 :: a3 :: a4 :: a5 :: a6 :: a7 :: some (.int (nI (a + 1))) :: r) st ph kc ks) (hn : jc2 a7 = false := by rfl) (hm : 8 < f.2.2.1 := by exact Nat.le_of_ble_eq_true rfl) : G E f F pc (a0 :: a1 :: a2 :: a3 :: a4 :: a5 :: a6 :: a7 :: some (.int (nI a)) :: r) st ph kc ks := G.iinc8 hd (by rw [show Int32.ofInt 1 = nI 1 from rfl, nI_add]; exact k) (hn := hn) (hm := hm)
theorem G.iincn9 {a0 a1 a2 a3 a4 a5 a6 a7 a8 : Option Value} {r : List (Option Value)} {a : Nat} (hd : decode f.2.1 pc = .ok (.iinc 9 1, 3)) (k : G E f F (pc + 3) (a0 :: a1 :: a2 :: a3 :: a4 :: a5 :: a6 :: a7 :: a8 :: some (.int (nI (a + 1))) :: r) st ph kc ks) (hn : jc2 a8 = false := by rfl) (hm : 9 < f.2.2.1 := by exact Nat.le_of_ble_eq_true rfl) : G E f F pc (a0 :: a1 :: a2 :: a3 :: a4 :: a5 :: a6 :: a7 :: a8 :: some (.int (nI a)) :: r) st ph kc ks := G.iinc9 hd (by rw [show Int32.ofInt 1 = nI 1 from rfl, nI_add]; exact k) (hn := hn) (hm := hm)
theorem G.iincn10 {a0 a1 a2 a3 a4 a5 a6 a7 a8 a9 : Option Value} {r : List (Option Value)} {a : Nat} (hd : decode f.2.1 pc = .ok (.iinc 10 1, 3)) (k : G E f F (pc + 3) (a0 :: a1 :: a2 :: a3 :: a4 :: a5 :: a6 :: a7 :: a8 :: a9 :: some (.int (nI (a + 1))) :: r) st ph kc ks) (hn : jc2 a9 = false := by rfl) (hm : 10 < f.2.2.1 := by exact Nat.le_of_ble_eq_true rfl) : G E f F pc (a0 :: a1 :: a2 :: a3 :: a4 :: a5 :: a6 :: a7 :: a8 :: a9 :: some (.int (nI a)) :: r) st ph kc ks := G.iinc10 hd (by rw [show Int32.ofInt 1 = nI 1 from rfl, nI_add]; exact k) (hn := hn) (hm := hm)
end Rows2
