theorem C0_static {w : Wd} {mi mi' : Mi} {cc cc' : ByteArray} {L L' cb sb n : Nat} {h h1 : Hp} {pc pc' idx : Nat} {ls : List (Option Value)} {st st0 : List Value} {Q : Outcome → Hp → Prop} {as : List Value} {x : Value} (d : Dc cc pc (.invokestatic idx) 3 pc') (lm : LM mi' cc' n) (l1 : Cond.methodLink mi.1.cls idx mi'.1 ∈ lw_all) (l2 : Cond.static mi'.1 ∈ lw_all) (con : Con w mi' cc' L' 0 0 as h (Rv x h1)) (hL : Nat.blt L' L = true) (hn : as.length = n) (hst : st0 = as.reverse ++ st) (hw : Nat.ble (st.map fun v => v.category).sum 8 = true) (kk : V w mi cc L cb sb h1 pc' ls (x :: st) Q) : V w mi cc L cb sb h pc ls st0 Q :=
  C_static (cb' := 0) (sb' := 0) d lm l1 l2 con hL hn hst hw kk
theorem zadd {x y : Int32} {a b : Nat} (hx : x = nI a) (hy : y = nI b) : x + y = nI (a + b) := by rw [hx, hy, nI_add]
theorem zmul {x y : Int32} {a b : Nat} (hx : x = nI a) (hy : y = nI b) : x * y = nI (a * b) := by rw [hx, hy, pk_mul]
theorem zlt_nle {x y : Int32} : ¬ x < y ↔ y ≤ x := Int32.not_lt
theorem zle_nlt {x y : Int32} : ¬ x ≤ y ↔ y < x := Int32.not_le
/-- is v between -/
def zin (v lo hi : Int32) : Int32 := if lo ≤ v ∧ v ≤ hi then 1 else 0
theorem zin_bool (v lo hi : Int32) : zin v lo hi = 0 ∨ zin v lo hi = 1 := by unfold zin; split <;> simp
theorem zin_0 {v lo hi : Int32} : zin v lo hi = 0 ↔ ¬ (lo ≤ v ∧ v ≤ hi) := by unfold zin; split <;> simp_all
theorem zin_n0 {v lo hi : Int32} : ¬ zin v lo hi = 0 ↔ lo ≤ v ∧ v ≤ hi := by unfold zin; split <;> simp_all
theorem zin_a {v lo hi : Int32} (h : v < lo) : 0 = zin v lo hi := by
  unfold zin
  rw [if_neg (fun q => absurd q.1 (zle_nlt.mpr h))]
theorem zin_b {v lo hi : Int32} (h : hi < v) : 0 = zin v lo hi := by
  unfold zin
  rw [if_neg (fun q => absurd q.2 (zle_nlt.mpr h))]
theorem zin_c {v lo hi : Int32} (h : ¬ v < lo) (h2 : ¬ hi < v) : 1 = zin v lo hi := by
  unfold zin
  rw [if_pos ⟨zlt_nle.mp h, zlt_nle.mp h2⟩]
theorem zinN {v M : Int32} {m : Nat} (h : ¬ zin v 0 M = 0) (hM : M = nI m) (hm : m < 2 ^ 31) : ∃ k, k ≤ m ∧ v = nI k := by
  obtain ⟨h1, h2⟩ := zin_n0.mp h
  obtain ⟨j, hj, rfl⟩ := nI_of (x := v) (zlt_nle.mpr h1)
  subst hM
  exact ⟨j, (nI_leI hj hm).mp h2, rfl⟩
/-- with an upper bound that is one less than a count -/
theorem zinC {v M : Int32} {m : Nat} (h : ¬ zin v 0 (M - 1) = 0) (hM : M = nI m) (hm : m < 2 ^ 31) : ∃ k, k < m ∧ v = nI k := by
  subst hM
  cases m with
  | zero =>
    obtain ⟨h1, h2⟩ := zin_n0.mp h
    exact absurd (Int32.le_trans h1 h2) (by decide)
  | succ m =>
    rw [nI_pred] at h
    obtain ⟨k, h1, h2⟩ := zinN h rfl (by omega)
    exact ⟨k, by omega, h2⟩
theorem zinN_iff {k m : Nat} (hk : k < 2 ^ 31) (hm : m < 2 ^ 31) : zin (nI k) 0 (nI m) = if k ≤ m then 1 else 0 := by
  unfold zin
  have h0 : (0 : Int32) ≤ nI k := nI_pos' hk
  simp only [h0, true_and, nI_leI hk hm]
/-- a condition as the machine's boolean -/
def bI (b : Bool) : Int32 := if b then 1 else 0
theorem bI_bool (b : Bool) : bI b = 0 ∨ bI b = 1 := by cases b <;> simp [bI]
theorem bI_0 {b : Bool} : bI b = 0 ↔ b = false := by cases b <;> simp [bI]
theorem bI_n0 {b : Bool} : ¬ bI b = 0 ↔ b = true := by cases b <;> simp [bI]
theorem bI_1 {b : Bool} : bI b = 1 ↔ b = true := by cases b <;> simp [bI]
theorem zloop (P : Nat → Prop) (e : Nat) (hs : ∀ i, i ≤ e → (i < e → P (i + 1)) → P i) : ∀ i, i ≤ e → P i := by
  intro i hi
  obtain ⟨n, hn⟩ : ∃ n, i + n = e := ⟨e - i, by omega⟩
  induction n generalizing i with
  | zero => exact hs i hi (fun q => absurd q (by omega))
  | succ n ih => exact hs i hi (fun q => ih (i + 1) (by omega) (by omega))

theorem rdn {α : Type} {f : Nat → α} {j k : Nat} {x v : α} (h : j ≠ k) (e : f j = v) : va_up f k x j = v := by rw [va_up_ne _ _ h]; exact e
theorem Rv.p {x : Int32} {h : Hp} {A : Nat → Nat → Int32} {B : Nat → Nat → Int64} {F S' : Nat → Int32} {q : Int32 × (Nat → Int32)} (e : (x, S') = q) : Rv (.int q.1) (ms h A B F q.2) (.returned (some (.int x))) (ms h A B F S') := by subst e; exact ⟨rfl, rfl⟩
def sn (S : Nat → Int32) (j : Nat) : Nat := (S j).toNatClampNeg
theorem sn_of {S : Nat → Int32} {j n : Nat} (h : S j = nI n) (hn : n < 2 ^ 31) : sn S j = n := by unfold sn; rw [h]; exact nI_clamp hn
theorem nle {a b : Nat} (h : nI a ≤ nI b) (ha : a < 2 ^ 31) (hb : b < 2 ^ 31) : a ≤ b := (nI_leI ha hb).mp h
theorem nnle {a b : Nat} (h : ¬ nI a ≤ nI b) (ha : a < 2 ^ 31) (hb : b < 2 ^ 31) : b < a := by
  rcases Nat.lt_or_ge b a with q | q
  · exact q
  · exact absurd ((nI_leI ha hb).mpr q) h
theorem nlt {a b : Nat} (h : nI a < nI b) (ha : a < 2 ^ 31) (hb : b < 2 ^ 31) : a < b := (nI_ltI ha hb).mp h
theorem nnlt {a b : Nat} (h : ¬ nI a < nI b) (ha : a < 2 ^ 31) (hb : b < 2 ^ 31) : b ≤ a := by
  rcases Nat.lt_or_ge a b with q | q
  · exact absurd ((nI_ltI ha hb).mpr q) h
  · exact q
theorem neq {a b : Nat} (h : nI a = nI b) (ha : a < 2 ^ 31) (hb : b < 2 ^ 31) : a = b := (nI_eq ha hb).mp h
theorem nneq {a b : Nat} (h : ¬ nI a = nI b) : a ≠ b := fun e => h (by rw [e])
theorem V_iincN0 {w : Wd} {mi : Mi} {cc : ByteArray} {L cb sb : Nat} {h : Hp} {pc pc' : Nat} {Q : Outcome → Hp → Prop} {t : List (Option Value)} {st : List Value} {n : Nat} (d : Dc cc pc (.iinc 0 1) 3 pc') (hn : Nat.blt 0 mi.2.1 = true) (k : V w mi cc L cb sb h pc' (some (.int (nI (n + 1))) :: t) st Q) : V w mi cc L cb sb h pc (some (.int (nI n)) :: t) st Q := V_iinc0 d hn (v := 1) (by decide) (by rw [nI_1]; exact k)
theorem V_iincN1 {w : Wd} {mi : Mi} {cc : ByteArray} {L cb sb : Nat} {h : Hp} {pc pc' : Nat} {Q : Outcome → Hp → Prop} {o0 : Option Value} {t : List (Option Value)} {st : List Value} {n : Nat} (hp : znl o0 = true) (d : Dc cc pc (.iinc 1 1) 3 pc') (hn : Nat.blt 1 mi.2.1 = true) (k : V w mi cc L cb sb h pc' (o0 :: some (.int (nI (n + 1))) :: t) st Q) : V w mi cc L cb sb h pc (o0 :: some (.int (nI n)) :: t) st Q := V_iinc1 hp d hn (v := 1) (by decide) (by rw [nI_1]; exact k)
theorem V_iincN2 {w : Wd} {mi : Mi} {cc : ByteArray} {L cb sb : Nat} {h : Hp} {pc pc' : Nat} {Q : Outcome → Hp → Prop} {o0 o1 : Option Value} {t : List (Option Value)} {st : List Value} {n : Nat} (hp : znl o1 = true) (d : Dc cc pc (.iinc 2 1) 3 pc') (hn : Nat.blt 2 mi.2.1 = true) (k : V w mi cc L cb sb h pc' (o0 :: o1 :: some (.int (nI (n + 1))) :: t) st Q) : V w mi cc L cb sb h pc (o0 :: o1 :: some (.int (nI n)) :: t) st Q := V_iinc2 hp d hn (v := 1) (by decide) (by rw [nI_1]; exact k)
theorem V_iincN3 {w : Wd} {mi : Mi} {cc : ByteArray} {L cb sb : Nat} {h : Hp} {pc pc' : Nat} {Q : Outcome → Hp → Prop} {o0 o1 o2 : Option Value} {t : List (Option Value)} {st : List Value} {n : Nat} (hp : znl o2 = true) (d : Dc cc pc (.iinc 3 1) 3 pc') (hn : Nat.blt 3 mi.2.1 = true) (k : V w mi cc L cb sb h pc' (o0 :: o1 :: o2 :: some (.int (nI (n + 1))) :: t) st Q) : V w mi cc L cb sb h pc (o0 :: o1 :: o2 :: some (.int (nI n)) :: t) st Q := V_iinc3 hp d hn (v := 1) (by decide) (by rw [nI_1]; exact k)
theorem V_iincN4 {w : Wd} {mi : Mi} {cc : ByteArray} {L cb sb : Nat} {h : Hp} {pc pc' : Nat} {Q : Outcome → Hp → Prop} {o0 o1 o2 o3 : Option Value} {t : List (Option Value)} {st : List Value} {n : Nat} (hp : znl o3 = true) (d : Dc cc pc (.iinc 4 1) 3 pc') (hn : Nat.blt 4 mi.2.1 = true) (k : V w mi cc L cb sb h pc' (o0 :: o1 :: o2 :: o3 :: some (.int (nI (n + 1))) :: t) st Q) : V w mi cc L cb sb h pc (o0 :: o1 :: o2 :: o3 :: some (.int (nI n)) :: t) st Q := V_iinc4 hp d hn (v := 1) (by decide) (by rw [nI_1]; exact k)
theorem V_iincN5 {w : Wd} {mi : Mi} {cc : ByteArray} {L cb sb : Nat} {h : Hp} {pc pc' : Nat} {Q : Outcome → Hp → Prop} {o0 o1 o2 o3 o4 : Option Value} {t : List (Option Value)} {st : List Value} {n : Nat} (hp : znl o4 = true) (d : Dc cc pc (.iinc 5 1) 3 pc') (hn : Nat.blt 5 mi.2.1 = true) (k : V w mi cc L cb sb h pc' (o0 :: o1 :: o2 :: o3 :: o4 :: some (.int (nI (n + 1))) :: t) st Q) : V w mi cc L cb sb h pc (o0 :: o1 :: o2 :: o3 :: o4 :: some (.int (nI n)) :: t) st Q := V_iinc5 hp d hn (v := 1) (by decide) (by rw [nI_1]; exact k)
theorem V_iincN6 {w : Wd} {mi : Mi} {cc : ByteArray} {L cb sb : Nat} {h : Hp} {pc pc' : Nat} {Q : Outcome → Hp → Prop} {o0 o1 o2 o3 o4 o5 : Option Value} {t : List (Option Value)} {st : List Value} {n : Nat} (hp : znl o5 = true) (d : Dc cc pc (.iinc 6 1) 3 pc') (hn : Nat.blt 6 mi.2.1 = true) (k : V w mi cc L cb sb h pc' (o0 :: o1 :: o2 :: o3 :: o4 :: o5 :: some (.int (nI (n + 1))) :: t) st Q) : V w mi cc L cb sb h pc (o0 :: o1 :: o2 :: o3 :: o4 :: o5 :: some (.int (nI n)) :: t) st Q := V_iinc6 hp d hn (v := 1) (by decide) (by rw [nI_1]; exact k)
theorem V_iincN7 {w : Wd} {mi : Mi} {cc : ByteArray} {L cb sb : Nat} {h : Hp} {pc pc' : Nat} {Q : Outcome → Hp → Prop} {o0 o1 o2 o3 o4 o5 o6 : Option Value} {t : List (Option Value)} {st : List Value} {n : Nat} (hp : znl o6 = true) (d : Dc cc pc (.iinc 7 1) 3 pc') (hn : Nat.blt 7 mi.2.1 = true) (k : V w mi cc L cb sb h pc' (o0 :: o1 :: o2 :: o3 :: o4 :: o5 :: o6 :: some (.int (nI (n + 1))) :: t) st Q) : V w mi cc L cb sb h pc (o0 :: o1 :: o2 :: o3 :: o4 :: o5 :: o6 :: some (.int (nI n)) :: t) st Q := V_iinc7 hp d hn (v := 1) (by decide) (by rw [nI_1]; exact k)
theorem V_iincN8 {w : Wd} {mi : Mi} {cc : ByteArray} {L cb sb : Nat} {h : Hp} {pc pc' : Nat} {Q : Outcome → Hp → Prop} {o0 o1 o2 o3 o4 o5 o6 o7 : Option Value} {t : List (Option Value)} {st : List Value} {n : Nat} (hp : znl o7 = true) (d : Dc cc pc (.iinc 8 1) 3 pc') (hn : Nat.blt 8 mi.2.1 = true) (k : V w mi cc L cb sb h pc' (o0 :: o1 :: o2 :: o3 :: o4 :: o5 :: o6 :: o7 :: some (.int (nI (n + 1))) :: t) st Q) : V w mi cc L cb sb h pc (o0 :: o1 :: o2 :: o3 :: o4 :: o5 :: o6 :: o7 :: some (.int (nI n)) :: t) st Q := V_iinc8 hp d hn (v := 1) (by decide) (by rw [nI_1]; exact k)
theorem V_iincN9 {w : Wd} {mi : Mi} {cc : ByteArray} {L cb sb : Nat} {h : Hp} {pc pc' : Nat} {Q : Outcome → Hp → Prop} {o0 o1 o2 o3 o4 o5 o6 o7 o8 : Option Value} {t : List (Option Value)} {st : List Value} {n : Nat} (hp : znl o8 = true) (d : Dc cc pc (.iinc 9 1) 3 pc') (hn : Nat.blt 9 mi.2.1 = true) (k : V w mi cc L cb sb h pc' (o0 :: o1 :: o2 :: o3 :: o4 :: o5 :: o6 :: o7 :: o8 :: some (.int (nI (n + 1))) :: t) st Q) : V w mi cc L cb sb h pc (o0 :: o1 :: o2 :: o3 :: o4 :: o5 :: o6 :: o7 :: o8 :: some (.int (nI n)) :: t) st Q := V_iinc9 hp d hn (v := 1) (by decide) (by rw [nI_1]; exact k)
theorem V_iincN10 {w : Wd} {mi : Mi} {cc : ByteArray} {L cb sb : Nat} {h : Hp} {pc pc' : Nat} {Q : Outcome → Hp → Prop} {o0 o1 o2 o3 o4 o5 o6 o7 o8 o9 : Option Value} {t : List (Option Value)} {st : List Value} {n : Nat} (hp : znl o9 = true) (d : Dc cc pc (.iinc 10 1) 3 pc') (hn : Nat.blt 10 mi.2.1 = true) (k : V w mi cc L cb sb h pc' (o0 :: o1 :: o2 :: o3 :: o4 :: o5 :: o6 :: o7 :: o8 :: o9 :: some (.int (nI (n + 1))) :: t) st Q) : V w mi cc L cb sb h pc (o0 :: o1 :: o2 :: o3 :: o4 :: o5 :: o6 :: o7 :: o8 :: o9 :: some (.int (nI n)) :: t) st Q := V_iinc10 hp d hn (v := 1) (by decide) (by rw [nI_1]; exact k)
theorem V_iincN11 {w : Wd} {mi : Mi} {cc : ByteArray} {L cb sb : Nat} {h : Hp} {pc pc' : Nat} {Q : Outcome → Hp → Prop} {o0 o1 o2 o3 o4 o5 o6 o7 o8 o9 o10 : Option Value} {t : List (Option Value)} {st : List Value} {n : Nat} (hp : znl o10 = true) (d : Dc cc pc (.iinc 11 1) 3 pc') (hn : Nat.blt 11 mi.2.1 = true) (k : V w mi cc L cb sb h pc' (o0 :: o1 :: o2 :: o3 :: o4 :: o5 :: o6 :: o7 :: o8 :: o9 :: o10 :: some (.int (nI (n + 1))) :: t) st Q) : V w mi cc L cb sb h pc (o0 :: o1 :: o2 :: o3 :: o4 :: o5 :: o6 :: o7 :: o8 :: o9 :: o10 :: some (.int (nI n)) :: t) st Q := V_iinc11 hp d hn (v := 1) (by decide) (by rw [nI_1]; exact k)
theorem V_iincN12 {w : Wd} {mi : Mi} {cc : ByteArray} {L cb sb : Nat} {h : Hp} {pc pc' : Nat} {Q : Outcome → Hp → Prop} {o0 o1 o2 o3 o4 o5 o6 o7 o8 o9 o10 o11 : Option Value} {t : List (Option Value)} {st : List Value} {n : Nat} (hp : znl o11 = true) (d : Dc cc pc (.iinc 12 1) 3 pc') (hn : Nat.blt 12 mi.2.1 = true) (k : V w mi cc L cb sb h pc' (o0 :: o1 :: o2 :: o3 :: o4 :: o5 :: o6 :: o7 :: o8 :: o9 :: o10 :: o11 :: some (.int (nI (n + 1))) :: t) st Q) : V w mi cc L cb sb h pc (o0 :: o1 :: o2 :: o3 :: o4 :: o5 :: o6 :: o7 :: o8 :: o9 :: o10 :: o11 :: some (.int (nI n)) :: t) st Q := V_iinc12 hp d hn (v := 1) (by decide) (by rw [nI_1]; exact k)
theorem V_iincN13 {w : Wd} {mi : Mi} {cc : ByteArray} {L cb sb : Nat} {h : Hp} {pc pc' : Nat} {Q : Outcome → Hp → Prop} {o0 o1 o2 o3 o4 o5 o6 o7 o8 o9 o10 o11 o12 : Option Value} {t : List (Option Value)} {st : List Value} {n : Nat} (hp : znl o12 = true) (d : Dc cc pc (.iinc 13 1) 3 pc') (hn : Nat.blt 13 mi.2.1 = true) (k : V w mi cc L cb sb h pc' (o0 :: o1 :: o2 :: o3 :: o4 :: o5 :: o6 :: o7 :: o8 :: o9 :: o10 :: o11 :: o12 :: some (.int (nI (n + 1))) :: t) st Q) : V w mi cc L cb sb h pc (o0 :: o1 :: o2 :: o3 :: o4 :: o5 :: o6 :: o7 :: o8 :: o9 :: o10 :: o11 :: o12 :: some (.int (nI n)) :: t) st Q := V_iinc13 hp d hn (v := 1) (by decide) (by rw [nI_1]; exact k)
theorem V_iincN14 {w : Wd} {mi : Mi} {cc : ByteArray} {L cb sb : Nat} {h : Hp} {pc pc' : Nat} {Q : Outcome → Hp → Prop} {o0 o1 o2 o3 o4 o5 o6 o7 o8 o9 o10 o11 o12 o13 : Option Value} {t : List (Option Value)} {st : List Value} {n : Nat} (hp : znl o13 = true) (d : Dc cc pc (.iinc 14 1) 3 pc') (hn : Nat.blt 14 mi.2.1 = true) (k : V w mi cc L cb sb h pc' (o0 :: o1 :: o2 :: o3 :: o4 :: o5 :: o6 :: o7 :: o8 :: o9 :: o10 :: o11 :: o12 :: o13 :: some (.int (nI (n + 1))) :: t) st Q) : V w mi cc L cb sb h pc (o0 :: o1 :: o2 :: o3 :: o4 :: o5 :: o6 :: o7 :: o8 :: o9 :: o10 :: o11 :: o12 :: o13 :: some (.int (nI n)) :: t) st Q := V_iinc14 hp d hn (v := 1) (by decide) (by rw [nI_1]; exact k)
theorem V_iincN15 {w : Wd} {mi : Mi} {cc : ByteArray} {L cb sb : Nat} {h : Hp} {pc pc' : Nat} {Q : Outcome → Hp → Prop} {o0 o1 o2 o3 o4 o5 o6 o7 o8 o9 o10 o11 o12 o13 o14 : Option Value} {t : List (Option Value)} {st : List Value} {n : Nat} (hp : znl o14 = true) (d : Dc cc pc (.iinc 15 1) 3 pc') (hn : Nat.blt 15 mi.2.1 = true) (k : V w mi cc L cb sb h pc' (o0 :: o1 :: o2 :: o3 :: o4 :: o5 :: o6 :: o7 :: o8 :: o9 :: o10 :: o11 :: o12 :: o13 :: o14 :: some (.int (nI (n + 1))) :: t) st Q) : V w mi cc L cb sb h pc (o0 :: o1 :: o2 :: o3 :: o4 :: o5 :: o6 :: o7 :: o8 :: o9 :: o10 :: o11 :: o12 :: o13 :: o14 :: some (.int (nI n)) :: t) st Q := V_iinc15 hp d hn (v := 1) (by decide) (by rw [nI_1]; exact k)
theorem V_iincN16 {w : Wd} {mi : Mi} {cc : ByteArray} {L cb sb : Nat} {h : Hp} {pc pc' : Nat} {Q : Outcome → Hp → Prop} {o0 o1 o2 o3 o4 o5 o6 o7 o8 o9 o10 o11 o12 o13 o14 o15 : Option Value} {t : List (Option Value)} {st : List Value} {n : Nat} (hp : znl o15 = true) (d : Dc cc pc (.iinc 16 1) 3 pc') (hn : Nat.blt 16 mi.2.1 = true) (k : V w mi cc L cb sb h pc' (o0 :: o1 :: o2 :: o3 :: o4 :: o5 :: o6 :: o7 :: o8 :: o9 :: o10 :: o11 :: o12 :: o13 :: o14 :: o15 :: some (.int (nI (n + 1))) :: t) st Q) : V w mi cc L cb sb h pc (o0 :: o1 :: o2 :: o3 :: o4 :: o5 :: o6 :: o7 :: o8 :: o9 :: o10 :: o11 :: o12 :: o13 :: o14 :: o15 :: some (.int (nI n)) :: t) st Q := V_iinc16 hp d hn (v := 1) (by decide) (by rw [nI_1]; exact k)
theorem V_iincN17 {w : Wd} {mi : Mi} {cc : ByteArray} {L cb sb : Nat} {h : Hp} {pc pc' : Nat} {Q : Outcome → Hp → Prop} {o0 o1 o2 o3 o4 o5 o6 o7 o8 o9 o10 o11 o12 o13 o14 o15 o16 : Option Value} {t : List (Option Value)} {st : List Value} {n : Nat} (hp : znl o16 = true) (d : Dc cc pc (.iinc 17 1) 3 pc') (hn : Nat.blt 17 mi.2.1 = true) (k : V w mi cc L cb sb h pc' (o0 :: o1 :: o2 :: o3 :: o4 :: o5 :: o6 :: o7 :: o8 :: o9 :: o10 :: o11 :: o12 :: o13 :: o14 :: o15 :: o16 :: some (.int (nI (n + 1))) :: t) st Q) : V w mi cc L cb sb h pc (o0 :: o1 :: o2 :: o3 :: o4 :: o5 :: o6 :: o7 :: o8 :: o9 :: o10 :: o11 :: o12 :: o13 :: o14 :: o15 :: o16 :: some (.int (nI n)) :: t) st Q := V_iinc17 hp d hn (v := 1) (by decide) (by rw [nI_1]; exact k)
theorem c_in {w : Wd} (h : Hp) (v lo hi : Int32) : Con w mX2_in cX2_in 1 0 0 [.int v, .int lo, .int hi] h (Rv (.int (zin v lo hi)) h) := by
  refine Con.of (by decide +kernel) rfl rfl ?_
  show V w mX2_in cX2_in 1 0 0 _ 0 [some (.int v), some (.int lo), some (.int hi)] [] _
  refine V_iload0 eX2_in_0 ?_
  refine V_iload1 eX2_in_1 ?_
  refine V_if_icmplt eX2_in_2 (fun c2 => ?_) (fun c2 => ?_)
  · refine V_iconst (v := 0) (by decide) eX2_in_14 ?_
    exact V_zreturn eX2_in_15 rfl (by decide) (Rv.i (zin_a c2))
  · refine V_iload0 eX2_in_5 ?_
    refine V_iload2 eX2_in_6 ?_
    refine V_if_icmpgt eX2_in_7 (fun c7 => ?_) (fun c7 => ?_)
    · refine V_iconst (v := 0) (by decide) eX2_in_14 ?_
      exact V_zreturn eX2_in_15 rfl (by decide) (Rv.i (zin_b c7))
    · refine V_iconst (v := 1) (by decide) eX2_in_10 ?_
      refine V_goto eX2_in_11 ?_
      exact V_zreturn eX2_in_15 rfl (by decide) (Rv.i (zin_c c2 c7))

theorem c_isCell {w : Wd} (h : Hp) (v : Int32) : Con w mX2_isCell cX2_isCell 2 0 0 [.int v] h (Rv (.int (zin v 0 79)) h) := by
  refine Con.of (by decide +kernel) rfl rfl ?_
  show V w mX2_isCell cX2_isCell 2 0 0 _ 0 [some (.int v)] [] _
  refine V_iload0 eX2_isCell_0 ?_
  refine V_iconst (v := 0) (by decide) eX2_isCell_1 ?_
  refine V_bipush (v := 79) (by decide) eX2_isCell_2 ?_
  refine C0_static eX2_isCell_4 lmX2_in q1966 q1967 (c_in _ _ _ _) rfl rfl rfl rfl ?_
  exact V_zreturn eX2_isCell_7 rfl (zin_bool _ _ _) (Rv.i (rfl))

theorem c_isHolder {w : Wd} (h : Hp) (v : Int32) : Con w mX2_isHolder cX2_isHolder 2 0 0 [.int v] h (Rv (.int (zin v 0 7)) h) := by
  refine Con.of (by decide +kernel) rfl rfl ?_
  show V w mX2_isHolder cX2_isHolder 2 0 0 _ 0 [some (.int v)] [] _
  refine V_iload0 eX2_isHolder_0 ?_
  refine V_iconst (v := 0) (by decide) eX2_isHolder_1 ?_
  refine V_bipush (v := 7) (by decide) eX2_isHolder_2 ?_
  refine C0_static eX2_isHolder_4 lmX2_in q1966 q1967 (c_in _ _ _ _) rfl rfl rfl rfl ?_
  exact V_zreturn eX2_isHolder_7 rfl (zin_bool _ _ _) (Rv.i (rfl))

theorem c_isDay {w : Wd} (h : Hp) (v : Int32) : Con w mX2_isDay cX2_isDay 2 0 0 [.int v] h (Rv (.int (zin v 0 999)) h) := by
  refine Con.of (by decide +kernel) rfl rfl ?_
  show V w mX2_isDay cX2_isDay 2 0 0 _ 0 [some (.int v)] [] _
  refine V_iload0 eX2_isDay_0 ?_
  refine V_iconst (v := 0) (by decide) eX2_isDay_1 ?_
  refine V_sipush (v := 999) (by decide) eX2_isDay_2 ?_
  refine C0_static eX2_isDay_5 lmX2_in q1966 q1967 (c_in _ _ _ _) rfl rfl rfl rfl ?_
  exact V_zreturn eX2_isDay_8 rfl (zin_bool _ _ _) (Rv.i (rfl))

theorem c_isSheet {w : Wd} (h : Hp) (v : Int32) : Con w mX2_isSheet cX2_isSheet 2 0 0 [.int v] h (Rv (.int (zin v 0 3)) h) := by
  refine Con.of (by decide +kernel) rfl rfl ?_
  show V w mX2_isSheet cX2_isSheet 2 0 0 _ 0 [some (.int v)] [] _
  refine V_iload0 eX2_isSheet_0 ?_
  refine V_iconst (v := 0) (by decide) eX2_isSheet_1 ?_
  refine V_iconst (v := 3) (by decide) eX2_isSheet_2 ?_
  refine C0_static eX2_isSheet_3 lmX2_in q1966 q1967 (c_in _ _ _ _) rfl rfl rfl rfl ?_
  exact V_zreturn eX2_isSheet_6 rfl (zin_bool _ _ _) (Rv.i (rfl))

theorem c_isTown {w : Wd} {h : Hp} {m : Nat} {ad : Nat → Nat} {A : Nat → Nat → Int32} {B : Nat → Nat → Int64} {F S : Nat → Int32} (mb : MB h m ad) (v : Int32) : Con w mX2_isTown cX2_isTown 2 0 0 [.ref m, .int v] (ms h A B F S) (Rv (.int (zin v 0 (S 1 - 1))) (ms h A B F S)) := by
  refine Con.of (by decide +kernel) rfl rfl ?_
  show V w mX2_isTown cX2_isTown 2 0 0 _ 0 [some (.ref m), some (.int v)] [] _
  refine V_iload1 eX2_isTown_0 ?_
  refine V_iconst (v := 0) (by decide) eX2_isTown_1 ?_
  refine V_aload0 eX2_isTown_2 rfl ?_
  refine M_ga mb rfl eX2_isTown_3 fl_X2_8_2 ?_
  refine V_iconst (v := 1) (by decide) eX2_isTown_6 ?_
  refine M_sl (n := 1) mb rfl (by omega) rfl eX2_isTown_7 ?_
  refine V_iconst (v := 1) (by decide) eX2_isTown_8 ?_
  refine V_isub eX2_isTown_9 ?_
  refine C0_static eX2_isTown_10 lmX2_in q1966 q1967 (c_in _ _ _ _) rfl rfl rfl rfl ?_
  exact V_zreturn eX2_isTown_13 rfl (zin_bool _ _ _) (Rv.i (rfl))

theorem c_isPaper {w : Wd} {h : Hp} {m : Nat} {ad : Nat → Nat} {A : Nat → Nat → Int32} {B : Nat → Nat → Int64} {F S : Nat → Int32} (mb : MB h m ad) (v : Int32) : Con w mX2_isPaper cX2_isPaper 2 0 0 [.ref m, .int v] (ms h A B F S) (Rv (.int (zin v 0 (S 2 - 1))) (ms h A B F S)) := by
  refine Con.of (by decide +kernel) rfl rfl ?_
  show V w mX2_isPaper cX2_isPaper 2 0 0 _ 0 [some (.ref m), some (.int v)] [] _
  refine V_iload1 eX2_isPaper_0 ?_
  refine V_iconst (v := 0) (by decide) eX2_isPaper_1 ?_
  refine V_aload0 eX2_isPaper_2 rfl ?_
  refine M_ga mb rfl eX2_isPaper_3 fl_X2_8_2 ?_
  refine V_iconst (v := 2) (by decide) eX2_isPaper_6 ?_
  refine M_sl (n := 2) mb rfl (by omega) rfl eX2_isPaper_7 ?_
  refine V_iconst (v := 1) (by decide) eX2_isPaper_8 ?_
  refine V_isub eX2_isPaper_9 ?_
  refine C0_static eX2_isPaper_10 lmX2_in q1966 q1967 (c_in _ _ _ _) rfl rfl rfl rfl ?_
  exact V_zreturn eX2_isPaper_13 rfl (zin_bool _ _ _) (Rv.i (rfl))

/-- is p a paper of that kind -/
def zof (S : Nat → Int32) (p k : Int32) : Bool := decide (¬ zin p 0 (S 2 - 1) = 0) && decide (S (370 + p.toNatClampNeg) = k)
theorem zof_0 {S : Nat → Int32} {p k : Int32} (h : zin p 0 (S 2 - 1) = 0) : zof S p k = false := by simp [zof, h]
theorem zof_N {S : Nat → Int32} {p : Nat} {k : Int32} (hp : p < 2 ^ 31) (h : ¬ zin (nI p) 0 (S 2 - 1) = 0) : zof S (nI p) k = decide (S (370 + p) = k) := by simp [zof, h, nI_clamp hp]
theorem c_isOf {w : Wd} {h : Hp} {m : Nat} {ad : Nat → Nat} {A : Nat → Nat → Int32} {B : Nat → Nat → Int64} {F S : Nat → Int32} (mb : MB h m ad) (p k : Int32) {np : Nat} (hnp : S 2 = nI np) (hnp60 : np ≤ 60) : Con w mX2_isOf cX2_isOf 3 0 0 [.ref m, .int p, .int k] (ms h A B F S) (Rv (.int (bI (zof S p k))) (ms h A B F S)) := by
  refine Con.of (by decide +kernel) rfl rfl ?_
  show V w mX2_isOf cX2_isOf 3 0 0 _ 0 [some (.ref m), some (.int p), some (.int k)] [] _
  refine V_aload0 eX2_isOf_0 rfl ?_
  refine V_iload1 eX2_isOf_1 ?_
  refine M_call mb eX2_isOf_2 lmX2_isPaper q2123 q2125 rfl qs68 (c_isPaper mb _) rfl rfl rfl rfl ?_
  refine V_ifeq eX2_isOf_5 (fun c5 => ?_) (fun c5 => ?_)
  · refine V_iconst (v := 0) (by decide) eX2_isOf_26 ?_
    exact V_zreturn eX2_isOf_27 rfl (by decide) (Rv.i (by rw [zof_0 c5]; rfl))
  · obtain ⟨q, hq, rfl⟩ := zinC c5 hnp (by omega)
    have hz := zof_N (k := k) (show q < 2 ^ 31 by omega) c5
    refine V_aload0 eX2_isOf_8 rfl ?_
    refine M_ga mb rfl eX2_isOf_9 fl_X2_8_2 ?_
    refine V_sipush (v := 370) (by decide) eX2_isOf_12 ?_
    refine V_iload1 eX2_isOf_15 ?_
    refine V_iadd eX2_isOf_16 ?_
    refine M_sl (n := (370 + q)) mb (zadd rfl rfl) (by omega) rfl eX2_isOf_17 ?_
    refine V_iload2 eX2_isOf_18 ?_
    refine V_if_icmpne eX2_isOf_19 (fun c19 => ?_) (fun c19 => ?_)
    · refine V_iconst (v := 0) (by decide) eX2_isOf_26 ?_
      exact V_zreturn eX2_isOf_27 rfl (by decide) (Rv.i (by rw [hz]; simp [c19, bI]))
    · refine V_iconst (v := 1) (by decide) eX2_isOf_22 ?_
      refine V_goto eX2_isOf_23 ?_
      exact V_zreturn eX2_isOf_27 rfl (by decide) (Rv.i (by rw [hz]; simp [c19, bI]))

theorem c_isScheme {w : Wd} {h : Hp} {m : Nat} {ad : Nat → Nat} {A : Nat → Nat → Int32} {B : Nat → Nat → Int64} {F S : Nat → Int32} (mb : MB h m ad) (p : Int32) {np : Nat} (hnp : S 2 = nI np) (hnp60 : np ≤ 60) : Con w mX2_isScheme cX2_isScheme 4 0 0 [.ref m, .int p] (ms h A B F S) (Rv (.int (bI (zof S p 1))) (ms h A B F S)) := by
  refine Con.of (by decide +kernel) rfl rfl ?_
  show V w mX2_isScheme cX2_isScheme 4 0 0 _ 0 [some (.ref m), some (.int p)] [] _
  refine V_aload0 eX2_isScheme_0 rfl ?_
  refine V_iload1 eX2_isScheme_1 ?_
  refine V_iconst (v := 1) (by decide) eX2_isScheme_2 ?_
  refine M_call mb eX2_isScheme_3 lmX2_isOf q2119 q2121 rfl qs67 (c_isOf mb _ _ hnp hnp60) rfl rfl rfl rfl ?_
  exact V_zreturn eX2_isScheme_6 rfl (bI_bool _) (Rv.i (rfl))

theorem c_isFallen {w : Wd} {h : Hp} {m : Nat} {ad : Nat → Nat} {A : Nat → Nat → Int32} {B : Nat → Nat → Int64} {F S : Nat → Int32} (mb : MB h m ad) {p : Nat} (hp : p < 60) : Con w mX2_isFallen cX2_isFallen 1 0 0 [.ref m, .int (nI p)] (ms h A B F S) (Rv (.int (bI (decide (S (790 + p) = 1)))) (ms h A B F S)) := by
  refine Con.of (by decide +kernel) rfl rfl ?_
  show V w mX2_isFallen cX2_isFallen 1 0 0 _ 0 [some (.ref m), some (.int (nI p))] [] _
  refine V_aload0 eX2_isFallen_0 rfl ?_
  refine M_ga mb rfl eX2_isFallen_1 fl_X2_8_2 ?_
  refine V_sipush (v := 790) (by decide) eX2_isFallen_4 ?_
  refine V_iload1 eX2_isFallen_7 ?_
  refine V_iadd eX2_isFallen_8 ?_
  refine M_sl (n := (790 + p)) mb (zadd rfl rfl) (by omega) rfl eX2_isFallen_9 ?_
  refine V_iconst (v := 1) (by decide) eX2_isFallen_10 ?_
  refine V_if_icmpne eX2_isFallen_11 (fun c11 => ?_) (fun c11 => ?_)
  · refine V_iconst (v := 0) (by decide) eX2_isFallen_18 ?_
    exact V_zreturn eX2_isFallen_19 rfl (by decide) (Rv.i (by simp [bI, c11]))
  · refine V_iconst (v := 1) (by decide) eX2_isFallen_14 ?_
    refine V_goto eX2_isFallen_15 ?_
    exact V_zreturn eX2_isFallen_19 rfl (by decide) (Rv.i (by simp [bI, c11]))

theorem c_isGranted {w : Wd} {h : Hp} {m : Nat} {ad : Nat → Nat} {A : Nat → Nat → Int32} {B : Nat → Nat → Int64} {F S : Nat → Int32} (mb : MB h m ad) {p : Nat} (hp : p < 60) : Con w mX2_isGranted cX2_isGranted 1 0 0 [.ref m, .int (nI p)] (ms h A B F S) (Rv (.int (bI (decide (S (370 + p) = 3) && decide (S (790 + p) = 1)))) (ms h A B F S)) := by
  refine Con.of (by decide +kernel) rfl rfl ?_
  show V w mX2_isGranted cX2_isGranted 1 0 0 _ 0 [some (.ref m), some (.int (nI p))] [] _
  refine V_aload0 eX2_isGranted_0 rfl ?_
  refine M_ga mb rfl eX2_isGranted_1 fl_X2_8_2 ?_
  refine V_sipush (v := 370) (by decide) eX2_isGranted_4 ?_
  refine V_iload1 eX2_isGranted_7 ?_
  refine V_iadd eX2_isGranted_8 ?_
  refine M_sl (n := (370 + p)) mb (zadd rfl rfl) (by omega) rfl eX2_isGranted_9 ?_
  refine V_iconst (v := 3) (by decide) eX2_isGranted_10 ?_
  refine V_if_icmpne eX2_isGranted_11 (fun c11 => ?_) (fun c11 => ?_)
  · refine V_iconst (v := 0) (by decide) eX2_isGranted_32 ?_
    exact V_zreturn eX2_isGranted_33 rfl (by decide) (Rv.i (by simp [bI, c11]))
  · refine V_aload0 eX2_isGranted_14 rfl ?_
    refine M_ga mb rfl eX2_isGranted_15 fl_X2_8_2 ?_
    refine V_sipush (v := 790) (by decide) eX2_isGranted_18 ?_
    refine V_iload1 eX2_isGranted_21 ?_
    refine V_iadd eX2_isGranted_22 ?_
    refine M_sl (n := (790 + p)) mb (zadd rfl rfl) (by omega) rfl eX2_isGranted_23 ?_
    refine V_iconst (v := 1) (by decide) eX2_isGranted_24 ?_
    refine V_if_icmpne eX2_isGranted_25 (fun c25 => ?_) (fun c25 => ?_)
    · refine V_iconst (v := 0) (by decide) eX2_isGranted_32 ?_
      exact V_zreturn eX2_isGranted_33 rfl (by decide) (Rv.i (by simp [bI, c11, c25]))
    · refine V_iconst (v := 1) (by decide) eX2_isGranted_28 ?_
      refine V_goto eX2_isGranted_29 ?_
      exact V_zreturn eX2_isGranted_33 rfl (by decide) (Rv.i (by simp [bI, c11, c25]))

theorem c_isBarred {w : Wd} {h : Hp} {m : Nat} {ad : Nat → Nat} {A : Nat → Nat → Int32} {B : Nat → Nat → Int64} {F S : Nat → Int32} (mb : MB h m ad) {a b : Nat} (ha : a < 60) (hb : b < 60) : Con w mX2_isBarred cX2_isBarred 1 0 0 [.ref m, .int (nI a), .int (nI b)] (ms h A B F S) (Rv (.int (bI (decide (S (1100 + 60 * a + b) = 1)))) (ms h A B F S)) := by
  refine Con.of (by decide +kernel) rfl rfl ?_
  show V w mX2_isBarred cX2_isBarred 1 0 0 _ 0 [some (.ref m), some (.int (nI a)), some (.int (nI b))] [] _
  refine V_aload0 eX2_isBarred_0 rfl ?_
  refine M_ga mb rfl eX2_isBarred_1 fl_X2_8_2 ?_
  refine V_sipush (v := 1100) (by decide) eX2_isBarred_4 ?_
  refine V_bipush (v := 60) (by decide) eX2_isBarred_7 ?_
  refine V_iload1 eX2_isBarred_9 ?_
  refine V_imul eX2_isBarred_10 ?_
  refine V_iadd eX2_isBarred_11 ?_
  refine V_iload2 eX2_isBarred_12 ?_
  refine V_iadd eX2_isBarred_13 ?_
  refine M_sl (n := ((1100 + (60 * a)) + b)) mb (zadd (zadd rfl (zmul rfl rfl)) rfl) (by omega) rfl eX2_isBarred_14 ?_
  refine V_iconst (v := 1) (by decide) eX2_isBarred_15 ?_
  refine V_if_icmpne eX2_isBarred_16 (fun c16 => ?_) (fun c16 => ?_)
  · refine V_iconst (v := 0) (by decide) eX2_isBarred_23 ?_
    exact V_zreturn eX2_isBarred_24 rfl (by decide) (Rv.i (by simp [bI, c16]))
  · refine V_iconst (v := 1) (by decide) eX2_isBarred_19 ?_
    refine V_goto eX2_isBarred_20 ?_
    exact V_zreturn eX2_isBarred_24 rfl (by decide) (Rv.i (by simp [bI, c16]))

theorem c_schemeOf {w : Wd} {h : Hp} {m : Nat} {ad : Nat → Nat} {A : Nat → Nat → Int32} {B : Nat → Nat → Int64} {F S : Nat → Int32} (mb : MB h m ad) {b p : Nat} (hb : b < 60) (hp : S (430 + b) = nI p) (hp60 : p < 60) : Con w mX2_schemeOf cX2_schemeOf 1 0 0 [.ref m, .int (nI b)] (ms h A B F S) (Rv (.int (S (430 + p))) (ms h A B F S)) := by
  refine Con.of (by decide +kernel) rfl rfl ?_
  show V w mX2_schemeOf cX2_schemeOf 1 0 0 _ 0 [some (.ref m), some (.int (nI b))] [] _
  refine V_aload0 eX2_schemeOf_0 rfl ?_
  refine M_ga mb rfl eX2_schemeOf_1 fl_X2_8_2 ?_
  refine V_sipush (v := 430) (by decide) eX2_schemeOf_4 ?_
  refine V_aload0 eX2_schemeOf_7 rfl ?_
  refine M_ga mb rfl eX2_schemeOf_8 fl_X2_8_2 ?_
  refine V_sipush (v := 430) (by decide) eX2_schemeOf_11 ?_
  refine V_iload1 eX2_schemeOf_14 ?_
  refine V_iadd eX2_schemeOf_15 ?_
  refine M_sl (n := (430 + b)) mb (zadd rfl rfl) (by omega) hp eX2_schemeOf_16 ?_
  refine V_iadd eX2_schemeOf_17 ?_
  refine M_sl (n := (430 + p)) mb (zadd rfl rfl) (by omega) rfl eX2_schemeOf_18 ?_
  exact V_ireturn eX2_schemeOf_19 rfl (Rv.i (rfl))

theorem c_size {w : Wd} (h : Hp) (v : Int32) : Con w mX2_size cX2_size 1 0 0 [.int v] h (Rv (.int (if v < 0 then -v else v)) h) := by
  refine Con.of (by decide +kernel) rfl rfl ?_
  show V w mX2_size cX2_size 1 0 0 _ 0 [some (.int v)] [] _
  refine V_iload0 eX2_size_0 ?_
  refine V_ifge eX2_size_1 (fun c1 => ?_) (fun c1 => ?_)
  · refine V_iload0 eX2_size_9 ?_
    exact V_ireturn eX2_size_10 rfl (Rv.i ((if_neg (zlt_nle.mpr c1)).symm))
  · refine V_iload0 eX2_size_4 ?_
    refine V_ineg eX2_size_5 ?_
    refine V_goto eX2_size_6 ?_
    exact V_ireturn eX2_size_10 rfl (Rv.i ((if_pos (zle_nlt.mp c1)).symm))

/-- two cells side by side -/
def zbes (a b : Int32) : Bool := decide ((a - a / 10 * 10 - (b - b / 10 * 10)) * (a - a / 10 * 10 - (b - b / 10 * 10)) + (a / 10 - b / 10) * (a / 10 - b / 10) = 1)
theorem c_isBeside {w : Wd} (h : Hp) (a b : Int32) : Con w mX2_isBeside cX2_isBeside 1 0 0 [.int a, .int b] h (Rv (.int (bI (zbes a b))) h) := by
  refine Con.of (by decide +kernel) rfl rfl ?_
  show V w mX2_isBeside cX2_isBeside 1 0 0 _ 0 [some (.int a), some (.int b), none, none] [] _
  refine V_iload0 eX2_isBeside_0 ?_
  refine V_bipush (v := 10) (by decide) eX2_isBeside_1 ?_
  refine V_irem (by decide) eX2_isBeside_3 ?_
  refine V_iload1 eX2_isBeside_4 ?_
  refine V_bipush (v := 10) (by decide) eX2_isBeside_5 ?_
  refine V_irem (by decide) eX2_isBeside_7 ?_
  refine V_isub eX2_isBeside_8 ?_
  refine V_istore2 rfl eX2_isBeside_9 rfl ?_
  refine V_iload0 eX2_isBeside_10 ?_
  refine V_bipush (v := 10) (by decide) eX2_isBeside_11 ?_
  refine V_idiv (by decide) eX2_isBeside_13 ?_
  refine V_iload1 eX2_isBeside_14 ?_
  refine V_bipush (v := 10) (by decide) eX2_isBeside_15 ?_
  refine V_idiv (by decide) eX2_isBeside_17 ?_
  refine V_isub eX2_isBeside_18 ?_
  refine V_istore3 rfl eX2_isBeside_19 rfl ?_
  refine V_iload2 eX2_isBeside_20 ?_
  refine V_iload2 eX2_isBeside_21 ?_
  refine V_imul eX2_isBeside_22 ?_
  refine V_iload3 eX2_isBeside_23 ?_
  refine V_iload3 eX2_isBeside_24 ?_
  refine V_imul eX2_isBeside_25 ?_
  refine V_iadd eX2_isBeside_26 ?_
  refine V_iconst (v := 1) (by decide) eX2_isBeside_27 ?_
  refine V_if_icmpne eX2_isBeside_28 (fun c28 => ?_) (fun c28 => ?_)
  · refine V_iconst (v := 0) (by decide) eX2_isBeside_35 ?_
    exact V_zreturn eX2_isBeside_36 rfl (by decide) (Rv.i (by simp [zbes, bI, c28]))
  · refine V_iconst (v := 1) (by decide) eX2_isBeside_31 ?_
    refine V_goto eX2_isBeside_32 ?_
    exact V_zreturn eX2_isBeside_36 rfl (by decide) (Rv.i (by simp [zbes, bI, c28]))
