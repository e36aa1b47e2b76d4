/-! bits (the first rows are out of BITS.to-paste) -/
def bt (x : Int32) (i : Nat) : Bool := x.toBitVec.getLsbD i
theorem b_ext {x y : Int32} (h : ∀ i, i < 32 → bt x i = bt y i) : x = y := Int32.toBitVec_inj.mp (BitVec.eq_of_getLsbD_eq (fun i hi => h i hi))
theorem b_or (x y : Int32) (i : Nat) : bt (x ||| y) i = (bt x i || bt y i) := by unfold bt; rw [Int32.toBitVec_or, BitVec.getLsbD_or]
theorem b_and (x y : Int32) (i : Nat) : bt (x &&& y) i = (bt x i && bt y i) := by unfold bt; rw [Int32.toBitVec_and, BitVec.getLsbD_and]
theorem b_xor (x y : Int32) (i : Nat) : bt (x ^^^ y) i = (bt x i ^^ bt y i) := by unfold bt; rw [Int32.toBitVec_xor, BitVec.getLsbD_xor]
theorem b_big {x : Int32} {i : Nat} (h : 32 ≤ i) : bt x i = false := BitVec.getLsbD_of_ge _ _ h
theorem b_m1 : ∀ i, i < 32 → bt (-1) i = true := by decide +kernel
theorem b_0 (i : Nat) : bt 0 i = false := BitVec.getLsbD_zero
theorem s_l : ∀ n, n < 32 → ((nI n &&& 31).toBitVec.smod 32).toNat = n := by decide +kernel
theorem b_shl (n : Nat) (hn : n < 32) (x : Int32) {i : Nat} (hi : i < 32) : bt (x <<< (nI n &&& 31)) i = (decide (n ≤ i) && bt x (i - n)) := by
  unfold bt
  rw [Int32.toBitVec_shiftLeft]
  show (x.toBitVec <<< ((nI n &&& 31).toBitVec.smod 32).toNat).getLsbD i = _
  rw [s_l n hn, BitVec.getLsbD_shiftLeft]
  rcases Nat.lt_or_ge i n with h | h
  · simp [h, Nat.not_le.mpr h]
  · simp [hi, h, Nat.not_lt.mpr h]
theorem b_sshr (n : Nat) (hn : n < 32) (x : Int32) {i : Nat} (hi : i < 32) : bt (x >>> (nI n &&& 31)) i = if n + i < 32 then bt x (n + i) else bt x 31 := by
  unfold bt
  rw [Int32.toBitVec_shiftRight]
  show (x.toBitVec.sshiftRight ((nI n &&& 31).toBitVec.smod 32).toNat).getLsbD i = _
  rw [s_l n hn, BitVec.getLsbD_sshiftRight, BitVec.msb_eq_getLsbD_last]
  simp [hi]
theorem b_1 : ∀ i, i < 32 → bt 1 i = decide (i = 0) := by decide +kernel
/-- the test of a bit -/
theorem bt_test (x : Int32) {k : Nat} (hk : k < 32) : x >>> (nI k &&& 31) &&& 1 = bI (bt x k) := by
  refine b_ext fun i hi => ?_
  rw [b_and, b_sshr k hk x hi, b_1 i hi]
  by_cases e : i = 0
  · subst e
    rw [Nat.add_zero, if_pos hk]
    cases bt x k <;> simp [bI, b_0, b_1 0 (by omega)]
  · rw [decide_eq_false e, Bool.and_false]
    cases bt x k
    · exact (b_0 i).symm
    · show false = bt 1 i
      rw [b_1 i hi, decide_eq_false e]
theorem bt_bit {j k : Nat} (hj : j < 32) (hk : k < 32) : bt ((1 : Int32) <<< (nI j &&& 31)) k = decide (k = j) := by
  rw [b_shl j hj _ hk]
  by_cases e : j ≤ k
  · rw [decide_eq_true e, Bool.true_and, b_1 _ (by omega)]
    congr 1
    apply propext
    omega
  · rw [decide_eq_false e, Bool.false_and, decide_eq_false (by omega)]
theorem bt_set (x : Int32) {j k : Nat} (hj : j < 32) (hk : k < 32) : bt (x ||| (1 : Int32) <<< (nI j &&& 31)) k = (bt x k || decide (k = j)) := by
  rw [b_or, bt_bit hj hk]
/-- how many of the first bits are set -/
def tkc (x : Int32) (n : Nat) : Nat := nsum (fun j => if bt x j = true then 1 else 0) n
theorem nsum_c1 : ∀ n, nsum (fun _ => 1) n = n
  | 0 => rfl
  | n + 1 => by simp only [nsum, nsum_c1 n]
theorem tkc_lt {x : Int32} {n j : Nat} (hj : j < n) (h : bt x j = false) : tkc x n < n := by
  have h1 : tkc x n < nsum (fun _ => 1) n := nsum_lt (a := j) hj (fun _ _ => zite1 _) (by rw [h]; decide)
  rw [nsum_c1] at h1
  exact h1
theorem tkc_set {x : Int32} {n j : Nat} (hj : j < n) (hn : n ≤ 32) (h : bt x j = false) : tkc (x ||| (1 : Int32) <<< (nI j &&& 31)) n = tkc x n + 1 := by
  have hc : ∀ m, m ≤ n → ∀ f g : Nat → Nat, (∀ c, c < m → f c = g c) → nsum f m = nsum g m := by
    intro m
    induction m with
    | zero => intro _ f g _; rfl
    | succ m ih => intro hm f g hfg; simp only [nsum]; rw [ih (by omega) f g (fun c hc => hfg c (by omega)), hfg m (by omega)]
  have h1 := (nsum_up (f := fun c => if bt x c = true then 1 else 0) (g := fun c => if c = j then 1 else if bt x c = true then 1 else 0) (a := j) (fun c hc => by rw [if_neg hc]) n).1 hj
  have h2 : tkc (x ||| (1 : Int32) <<< (nI j &&& 31)) n = nsum (fun c => if c = j then 1 else if bt x c = true then 1 else 0) n := hc n (Nat.le_refl _) _ _ (fun c hc => by
    rw [bt_set x (by omega) (by omega)]
    by_cases e : c = j
    · subst e; simp
    · simp [e])
  rw [h2]
  rw [h] at h1
  simp only [Bool.false_eq_true, if_false, if_true] at h1
  unfold tkc
  omega
theorem zblt {a b : Nat} (h : a < b) : Nat.blt a b = true := Nat.ble_eq_true_of_le h
theorem tkc_0 : ∀ n, n ≤ 7 → tkc 0 n = 0 := by decide +kernel
