def K_price_414 (p : Nat) : Nat → Int32 × (Nat → Int32) → Int32 × (Nat → Int32) := fun f q414 =>
    let l := q414.1.toNatClampNeg
    if (q414.2 (11640 + f)) = (nI p) then
      ((nI l), q414.2)
    else
      let t1 := va_up q414.2 (11640 + l) (q414.2 (11640 + f))
      let t2 := va_up t1 (11680 + l) (t1 (11680 + f))
      let t3 := va_up t2 (11720 + l) (t2 (11720 + f))
      let t4 := va_up t3 (11760 + l) (t3 (11760 + f))
      let t5 := va_up t4 (11800 + l) (t4 (11800 + f))
      ((nI (l + 1)), t5)
def D_price_203 (nf : Nat) (si : Nat) (p : Nat) (q27 : Int32 × Int32 × Int32 × (Nat → Int32)) (fa : Nat) (fb : Nat) (ha : Nat) (hb : Nat) (pa : Nat) (n8 : Int32) : Option (Int32 × Int32 × Int32 × (Nat → Int32)) :=
    if n8 = 0 then
      if (q27.2.2.2 (11530 + 9 * si + ha)) = 0 then
        let S_95 := va_up q27.2.2.2 (11720 + fa) (0 : Int32)
        some (q27.1, (o_bestOf S_95 nf (nI p) (0 : Int32)), (o_bestOf S_95 nf (nI p) (1 : Int32)), S_95)
      else
        let S_88 := va_up q27.2.2.2 (11720 + fb) (0 : Int32)
        some (q27.1, (o_bestOf S_88 nf (nI p) (0 : Int32)), (o_bestOf S_88 nf (nI p) (1 : Int32)), S_88)
    else
      let S_39 := va_up q27.2.2.2 (11530 + 9 * si + ha) ((q27.2.2.2 (11530 + 9 * si + ha)) - n8)
      let S_46 := va_up S_39 (11530 + 9 * si + hb) ((S_39 (11530 + 9 * si + hb)) + n8)
      let S_53 := va_up S_46 (192 + hb) ((S_46 (192 + hb)) - (n8 * (nI pa)))
      let S_60 := va_up S_53 (192 + ha) ((S_53 (192 + ha)) + (n8 * (nI pa)))
      let S_67 := va_up S_60 (11720 + fa) ((S_60 (11720 + fa)) - n8)
      let S_74 := va_up S_67 (11720 + fb) ((S_67 (11720 + fb)) - n8)
      let S_81 := va_up S_74 (11514 + si) (nI pa)
      some ((q27.1 + n8), (o_bestOf S_81 nf (nI p) (0 : Int32)), (o_bestOf S_81 nf (nI p) (1 : Int32)), S_81)
def K_price_27 (nf : Nat) (si : Nat) (p : Nat) : Int32 × Int32 × Int32 × (Nat → Int32) → Option (Int32 × Int32 × Int32 × (Nat → Int32)) := fun q27 =>
    if q27.2.1 = (-1 : Int32) then
      none
    else
      let fa := q27.2.1.toNatClampNeg
      if q27.2.2.1 = (-1 : Int32) then
        none
      else
        let fb := q27.2.2.1.toNatClampNeg
        let ha := sn q27.2.2.2 (11680 + fa)
        let hb := sn q27.2.2.2 (11680 + fb)
        let pa := sn q27.2.2.2 (11760 + fa)
        let pb := sn q27.2.2.2 (11760 + fb)
        if (nI pb) < (nI pa) then
          none
        else
          if (q27.2.2.2 (11720 + fb)) ≤ (q27.2.2.2 (11720 + fa)) then
            if (q27.2.2.2 (11720 + fb)) ≤ (q27.2.2.2 (11530 + 9 * si + ha)) then
              if (q27.2.2.2 (11720 + fb)) ≤ ((q27.2.2.2 (192 + hb)) / (nI pa)) then
                (D_price_203 nf si p q27 fa fb ha hb pa (q27.2.2.2 (11720 + fb)))
              else
                (D_price_203 nf si p q27 fa fb ha hb pa ((q27.2.2.2 (192 + hb)) / (nI pa)))
            else
              if (q27.2.2.2 (11530 + 9 * si + ha)) ≤ ((q27.2.2.2 (192 + hb)) / (nI pa)) then
                (D_price_203 nf si p q27 fa fb ha hb pa (q27.2.2.2 (11530 + 9 * si + ha)))
              else
                (D_price_203 nf si p q27 fa fb ha hb pa ((q27.2.2.2 (192 + hb)) / (nI pa)))
          else
            if (q27.2.2.2 (11720 + fa)) ≤ (q27.2.2.2 (11530 + 9 * si + ha)) then
              if (q27.2.2.2 (11720 + fa)) ≤ ((q27.2.2.2 (192 + hb)) / (nI pa)) then
                (D_price_203 nf si p q27 fa fb ha hb pa (q27.2.2.2 (11720 + fa)))
              else
                (D_price_203 nf si p q27 fa fb ha hb pa ((q27.2.2.2 (192 + hb)) / (nI pa)))
            else
              if (q27.2.2.2 (11530 + 9 * si + ha)) ≤ ((q27.2.2.2 (192 + hb)) / (nI pa)) then
                (D_price_203 nf si p q27 fa fb ha hb pa (q27.2.2.2 (11530 + 9 * si + ha)))
              else
                (D_price_203 nf si p q27 fa fb ha hb pa ((q27.2.2.2 (192 + hb)) / (nI pa)))
def o_price (S : Nat → Int32) (nf : Nat) (sc : Int32) : Int32 × (Nat → Int32) :=
  if (bI (zof S sc 1)) = 0 then
    ((-1 : Int32), S)
  else
    let p := sc.toNatClampNeg
    let si := sI S (nI p)
    let q27 := zwh (K_price_27 nf si p) zBIG ((0 : Int32), (o_bestOf S nf (nI p) (0 : Int32)), (o_bestOf S nf (nI p) (1 : Int32)), S)
    let q414 := zfold (K_price_414 p) nf ((0 : Int32), q27.2.2.2)
    let S_4 := va_up q414.2 8 q414.1
    (q27.1, S_4)
theorem nsum_v {F : Nat → Nat} {a v n : Nat} (h : a < n) : nsum (va_up F a v) n + F a = nsum F n + v := by
  have h1 := (nsum_up (f := F) (g := va_up F a v) (a := a) (fun c hc => va_up_ne _ _ hc) n).1 h
  rw [va_up_self] at h1
  exact h1
theorem nsum_ge {F : Nat → Nat} {a n : Nat} (h : a < n) : F a ≤ nsum F n := by
  have := nsum_v (F := F) (v := 0) h
  omega
theorem nsum_ext {F G : Nat → Nat} : ∀ n, (∀ c, c < n → F c = G c) → nsum F n = nsum G n
  | 0, _ => rfl
  | n + 1, h => by simp only [nsum]; rw [nsum_ext n (fun c hc => h c (by omega)), h n (by omega)]
/-- offers as they are made -/
def prF (S : Nat → Int32) (nf : Nat) : Prop := ∀ f, f < nf → ∃ hh pr, S (11680 + f) = nI hh ∧ hh < 8 ∧ S (11760 + f) = nI pr ∧ 1 ≤ pr ∧ pr ≤ 999
/-- what is left of offers, shares and coins, as numbers -/
def prI0 (T : Nat → Int32) (nf si : Nat) : Prop :=
  (∀ f, f < nf → T (11720 + f) = nI (sn T (11720 + f)) ∧ sn T (11720 + f) ≤ 99) ∧ (∀ k, k < 8 → T (11530 + 9 * si + k) = nI (sn T (11530 + 9 * si + k))) ∧ nsum (fun k => sn T (11530 + 9 * si + k)) 8 ≤ 99 ∧
  (∀ k, k < 8 → T (192 + k) = nI (sn T (192 + k))) ∧ nsum (fun k => sn T (192 + k)) 8 ≤ 2 ^ 29
def prFr (S T : Nat → Int32) : Prop := ∀ j, (j < 192 ∨ 200 ≤ j ∧ j < 11514 ∨ 11638 ≤ j ∧ j < 11720 ∨ 11760 ≤ j) → T j = S j
def prI (S : Nat → Int32) (nf p si : Nat) (q : Int32 × Int32 × Int32 × (Nat → Int32)) : Prop :=
  prFr S q.2.2.2 ∧ q.2.1 = o_bestOf q.2.2.2 nf (nI p) 0 ∧ q.2.2.1 = o_bestOf q.2.2.2 nf (nI p) 1 ∧ prI0 q.2.2.2 nf si
def prM (nf : Nat) (q : Int32 × Int32 × Int32 × (Nat → Int32)) : Nat := nsum (fun f => sn q.2.2.2 (11720 + f)) nf
theorem pr_sp {S T : Nat → Int32} {p : Int32} (h : prFr S T) (hs : ∃ i, i < 12 ∧ S (11490 + i) = p) : ∃ i, i < 12 ∧ T (11490 + i) = p := by
  obtain ⟨i, h1, h2⟩ := hs
  exact ⟨i, h1, (h _ (by omega)).trans h2⟩
theorem sidx_cong {S T : Nat → Int32} {p : Int32} : ∀ n i, i + n ≤ 12 → (∀ j, j < 12 → T (11490 + j) = S (11490 + j)) → sidx T p n i = sidx S p n i
  | 0, i, _, _ => rfl
  | n + 1, i, h, hf => by
    unfold sidx
    rw [hf i (by omega), sidx_cong n (i + 1) (by omega) hf]
theorem sI_cong {S T : Nat → Int32} {p : Int32} (hf : ∀ j, j < 12 → T (11490 + j) = S (11490 + j)) : sI T p = sI S p := sidx_cong 12 0 (by omega) hf
theorem pr_sI {S T : Nat → Int32} {p : Int32} (h : prFr S T) : sI T p = sI S p := sI_cong (fun j hj => h _ (by omega))
theorem best_ok {T : Nat → Int32} {nf : Nat} {sch asks : Int32} : o_bestOf T nf sch asks = -1 ∨ ∃ f, f < nf ∧ o_bestOf T nf sch asks = nI f ∧ T (11640 + f) = sch ∧ T (11800 + f) = asks ∧ ¬ T (11720 + f) ≤ 0 := by
  show zfold (K_bestOf_5 T sch asks) nf (-1) = -1 ∨ ∃ f, f < nf ∧ zfold (K_bestOf_5 T sch asks) nf (-1) = nI f ∧ T (11640 + f) = sch ∧ T (11800 + f) = asks ∧ ¬ T (11720 + f) ≤ 0
  refine zfold_inv (P := fun i q => q = -1 ∨ ∃ f, f < i ∧ q = nI f ∧ T (11640 + f) = sch ∧ T (11800 + f) = asks ∧ ¬ T (11720 + f) ≤ 0) (Or.inl rfl) (fun i hi q hq => ?_)
  have keep : q = -1 ∨ ∃ f, f < i + 1 ∧ q = nI f ∧ T (11640 + f) = sch ∧ T (11800 + f) = asks ∧ ¬ T (11720 + f) ≤ 0 := by
    rcases hq with h | ⟨f, h1, h2⟩
    · exact Or.inl h
    · exact Or.inr ⟨f, by omega, h2⟩
  simp only [K_bestOf_5]
  split
  · next a1 =>
    split
    · next a2 =>
      split
      · repeat' split
        all_goals exact keep
      · next a3 =>
        repeat' split
        all_goals first | exact keep | exact Or.inr ⟨i, by omega, rfl, a1, a2, a3⟩
    · repeat' split
      all_goals exact keep
  · repeat' split
    all_goals exact keep
theorem pr_best {T : Nat → Int32} {nf : Nat} {x sch asks : Int32} (h : x = o_bestOf T nf sch asks) (hne : ¬ x = -1) : ∃ f, x = nI f ∧ f < nf := by
  rcases best_ok (T := T) (nf := nf) (sch := sch) (asks := asks) with q | ⟨f, h1, h2, -⟩
  · exact absurd (h.trans q) hne
  · exact ⟨f, h.trans h2, h1⟩
section PR
variable {S T : Nat → Int32} {nf p si : Nat}
theorem pr_0 (h : prI0 S nf si) : prI S nf p si ((0 : Int32), o_bestOf S nf (nI p) 0, o_bestOf S nf (nI p) 1, S) := ⟨fun _ _ => rfl, rfl, rfl, h⟩
theorem prM_0 (h : prI0 S nf si) (hn : nf ≤ 40) : prM nf ((0 : Int32), o_bestOf S nf (nI p) 0, o_bestOf S nf (nI p) 1, S) ≤ zBIG := by
  have := nsum_k (f := fun f => sn S (11720 + f)) (k := 99) nf (fun c hc => (h.1 c hc).2)
  show nsum (fun f => sn S (11720 + f)) nf ≤ 100000000
  omega
theorem sn_up_self {T : Nat → Int32} {j n : Nat} (hn : n < 2 ^ 31) : sn (va_up T j (nI n)) j = n := sn_of (va_up_self _ _ _) hn
theorem sn_up_ne {T : Nat → Int32} {j k : Nat} {x : Int32} (h : k ≠ j) : sn (va_up T j x) k = sn T k := by unfold sn; rw [va_up_ne _ _ h]
/-- an offer is out -/
theorem pr_out (h : prI0 T nf si) {f : Nat} (hf : f < nf) (hn : nf ≤ 40) (hs : si < 12) (hpos : 0 < sn T (11720 + f)) : prI0 (va_up T (11720 + f) 0) nf si ∧ nsum (fun g => sn (va_up T (11720 + f) 0) (11720 + g)) nf < nsum (fun g => sn T (11720 + g)) nf := by
  obtain ⟨h1, h2, h3, h4, h5⟩ := h
  refine ⟨⟨fun g hg => ?_, fun k hk => ?_, ?_, fun k hk => ?_, ?_⟩, ?_⟩
  · by_cases e : g = f
    · subst e
      rw [show (0 : Int32) = nI 0 from rfl, sn_up_self (by omega), va_up_self]
      exact ⟨rfl, by omega⟩
    · rw [sn_up_ne (by omega), va_up_ne _ _ (by omega)]
      exact h1 g hg
  · rw [sn_up_ne (by omega), va_up_ne _ _ (by omega)]; exact h2 k hk
  · rw [nsum_ext 8 (fun c hc => sn_up_ne (by omega))]; exact h3
  · rw [sn_up_ne (by omega), va_up_ne _ _ (by omega)]; exact h4 k hk
  · rw [nsum_ext 8 (fun c hc => sn_up_ne (by omega))]; exact h5
  · refine nsum_lt (a := f) hf (fun g hg => ?_) ?_
    · by_cases e : g = f
      · subst e
        rw [show (0 : Int32) = nI 0 from rfl, sn_up_self (by omega)]; omega
      · rw [sn_up_ne (by omega)]; exact Nat.le_refl _
    · rw [show (0 : Int32) = nI 0 from rfl, sn_up_self (by omega)]; exact hpos
/-- moving n from one place of a block to another -/
theorem blk_move {b m a c n : Nat} (ha : a < m) (hc : c < m) (hf : ∀ k, k < m → T (b + k) = nI (sn T (b + k))) (hs : nsum (fun k => sn T (b + k)) m ≤ 2 ^ 30) (hn : n ≤ sn T (b + a)) {T1 T2 : Nat → Int32} (e1 : T1 = va_up T (b + a) (T (b + a) - nI n)) (e2 : T2 = va_up T1 (b + c) (T1 (b + c) + nI n)) :
    (∀ k, k < m → T2 (b + k) = nI (sn T2 (b + k))) ∧ nsum (fun k => sn T2 (b + k)) m = nsum (fun k => sn T (b + k)) m := by
  have hb : ∀ k, k < m → sn T (b + k) ≤ 2 ^ 30 := fun k hk => Nat.le_trans (nsum_ge (F := fun k => sn T (b + k)) hk) hs
  have v1 : T1 (b + a) = nI (sn T (b + a) - n) := by rw [e1, va_up_self, hf a ha, pk_sub hn]
  have s1 : ∀ k, k < m → T1 (b + k) = nI (va_up (fun k => sn T (b + k)) a (sn T (b + a) - n) k) := by
    intro k hk
    by_cases e : k = a
    · subst e; rw [va_up_self]; exact v1
    · rw [va_up_ne _ _ e, e1, va_up_ne _ _ (by omega)]; exact hf k hk
  have q1 := nsum_v (F := fun k => sn T (b + k)) (v := sn T (b + a) - n) ha
  have s2 : ∀ k, k < m → T2 (b + k) = nI (va_up (va_up (fun k => sn T (b + k)) a (sn T (b + a) - n)) c (va_up (fun k => sn T (b + k)) a (sn T (b + a) - n) c + n) k) := by
    intro k hk
    by_cases e : k = c
    · subst e; rw [va_up_self, e2, va_up_self, s1 k hk, nI_add]
    · rw [va_up_ne _ _ e, e2, va_up_ne _ _ (by omega)]; exact s1 k hk
  have q2 := nsum_v (F := va_up (fun k => sn T (b + k)) a (sn T (b + a) - n)) (v := va_up (fun k => sn T (b + k)) a (sn T (b + a) - n) c + n) hc
  have hsum : nsum (va_up (va_up (fun k => sn T (b + k)) a (sn T (b + a) - n)) c (va_up (fun k => sn T (b + k)) a (sn T (b + a) - n) c + n)) m = nsum (fun k => sn T (b + k)) m := by
    have : (fun k => sn T (b + k)) a = sn T (b + a) := rfl
    omega
  have s3 : ∀ k, k < m → sn T2 (b + k) = va_up (va_up (fun k => sn T (b + k)) a (sn T (b + a) - n)) c (va_up (fun k => sn T (b + k)) a (sn T (b + a) - n) c + n) k := fun k hk => sn_of (s2 k hk) (by
    have := nsum_ge (F := va_up (va_up (fun k => sn T (b + k)) a (sn T (b + a) - n)) c (va_up (fun k => sn T (b + k)) a (sn T (b + a) - n) c + n)) hk
    omega)
  refine ⟨fun k hk => by rw [s3 k hk]; exact s2 k hk, ?_⟩
  rw [nsum_ext m s3]
  exact hsum
/-- some go -/
theorem pr_go (h : prI0 T nf si) {fa fb ha hb pa n : Nat} (hn40 : nf ≤ 40) (hs : si < 12) (hfa : fa < nf) (hfb : fb < nf) (hne : fa ≠ fb) (ha8 : ha < 8) (hb8 : hb < 8) (n0 : 0 < n) (n1 : n ≤ sn T (11720 + fa)) (n2 : n ≤ sn T (11720 + fb)) (n3 : n ≤ sn T (11530 + 9 * si + ha)) (n4 : n * pa ≤ sn T (192 + hb)) (v : Int32)
    {t3 t4 t5 t6 t7 t8 t9 : Nat → Int32} (e3 : t3 = va_up T (11530 + 9 * si + ha) (T (11530 + 9 * si + ha) - nI n)) (e4 : t4 = va_up t3 (11530 + 9 * si + hb) (t3 (11530 + 9 * si + hb) + nI n)) (e5 : t5 = va_up t4 (192 + hb) (t4 (192 + hb) - nI n * nI pa)) (e6 : t6 = va_up t5 (192 + ha) (t5 (192 + ha) + nI n * nI pa)) (e7 : t7 = va_up t6 (11720 + fa) (t6 (11720 + fa) - nI n)) (e8 : t8 = va_up t7 (11720 + fb) (t7 (11720 + fb) - nI n)) (e9 : t9 = va_up t8 (11514 + si) v) :
    prI0 t9 nf si ∧ nsum (fun g => sn t9 (11720 + g)) nf < nsum (fun g => sn T (11720 + g)) nf := by
  obtain ⟨h1, h2, h3, h4, h5⟩ := h
  obtain ⟨b1, b2⟩ := blk_move (T := T) (b := 11530 + 9 * si) ha8 hb8 h2 (by omega) n3 e3 e4
  have c4 : ∀ k, k < 8 → t4 (192 + k) = T (192 + k) := fun k hk => by rw [e4, va_up_ne _ _ (by omega), e3, va_up_ne _ _ (by omega)]
  have c4s : ∀ k, k < 8 → sn t4 (192 + k) = sn T (192 + k) := fun k hk => by unfold sn; rw [c4 k hk]
  rw [pk_mul] at e5 e6
  obtain ⟨d1, d2⟩ := blk_move (T := t4) (b := 192) hb8 ha8 (fun k hk => by rw [c4 k hk, c4s k hk]; exact h4 k hk) (by rw [nsum_ext 8 c4s]; omega) (by rw [c4s hb hb8]; exact n4) e5 e6
  have t6s : ∀ k, k < 8 → t6 (11530 + 9 * si + k) = t4 (11530 + 9 * si + k) := fun k hk => by rw [e6, va_up_ne _ _ (by omega), e5, va_up_ne _ _ (by omega)]
  have t6f : ∀ g, g < nf → t6 (11720 + g) = T (11720 + g) := fun g hg => by rw [e6, va_up_ne _ _ (by omega), e5, va_up_ne _ _ (by omega), e4, va_up_ne _ _ (by omega), e3, va_up_ne _ _ (by omega)]
  have t9o : ∀ j, (j < 11514 ∨ 11526 ≤ j) → (j < 11720 ∨ 11760 ≤ j) → t9 j = t6 j := fun j hj hj2 => by rw [e9, va_up_ne _ _ (by omega), e8, va_up_ne _ _ (by omega), e7, va_up_ne _ _ (by omega)]
  have fF : ∀ g, g < nf → t9 (11720 + g) = nI (if g = fa ∨ g = fb then sn T (11720 + g) - n else sn T (11720 + g)) := by
    intro g hg
    rw [e9, va_up_ne _ _ (by omega)]
    by_cases eb : g = fb
    · subst eb
      rw [if_pos (Or.inr rfl), e8, va_up_self, e7, va_up_ne _ _ (by omega), t6f g hg, (h1 g hg).1, pk_sub n2]
    · rw [e8, va_up_ne _ _ (by omega)]
      by_cases ea : g = fa
      · subst ea
        rw [if_pos (Or.inl rfl), e7, va_up_self, t6f g hg, (h1 g hg).1, pk_sub n1]
      · rw [if_neg (by omega), e7, va_up_ne _ _ (by omega), t6f g hg]; exact (h1 g hg).1
  have fS : ∀ g, g < nf → sn t9 (11720 + g) = if g = fa ∨ g = fb then sn T (11720 + g) - n else sn T (11720 + g) := fun g hg => sn_of (fF g hg) (by have := (h1 g hg).2; split <;> omega)
  have sS : ∀ k, k < 8 → sn t9 (11530 + 9 * si + k) = sn t4 (11530 + 9 * si + k) := fun k hk => by unfold sn; rw [t9o _ (by omega) (by omega), t6s k hk]
  have cS : ∀ k, k < 8 → sn t9 (192 + k) = sn t6 (192 + k) := fun k hk => by unfold sn; rw [t9o _ (by omega) (by omega)]
  refine ⟨⟨fun g hg => ⟨by rw [fS g hg]; exact fF g hg, by have := (h1 g hg).2; rw [fS g hg]; split <;> omega⟩, fun k hk => by rw [sS k hk, t9o _ (by omega) (by omega), t6s k hk]; exact b1 k hk, by rw [nsum_ext 8 sS, b2]; exact h3, fun k hk => by rw [cS k hk, t9o _ (by omega) (by omega)]; exact d1 k hk, by rw [nsum_ext 8 cS, d2, nsum_ext 8 c4s]; exact h5⟩, ?_⟩
  refine nsum_lt (a := fa) hfa (fun g hg => ?_) ?_
  · rw [fS g hg]; split <;> omega
  · rw [fS fa hfa, if_pos (Or.inl rfl)]; omega
theorem pr_K (hof : prF S nf) (hnf40 : nf ≤ 40) (hs : si < 12) {q r : Int32 × Int32 × Int32 × (Nat → Int32)} (h : prI S nf p si q) (hK : K_price_27 nf si p q = some r) : prI S nf p si r ∧ prM nf r < prM nf q := by
  obtain ⟨we, a, b, T⟩ := q
  obtain ⟨hfr, ea, eb, hg⟩ := h
  dsimp only at hfr ea eb hg
  simp only [K_price_27] at hK
  split at hK
  · cases hK
  next ha1 =>
  split at hK
  · cases hK
  next hb1 =>
  obtain ⟨fa, ha2, hfa, ha3, ha4, ha5⟩ := (best_ok (T := T) (nf := nf) (sch := nI p) (asks := 0)).resolve_left (fun q => ha1 (ea.trans q))
  obtain ⟨fb, hb2, hfb, hb3, hb4, hb5⟩ := (best_ok (T := T) (nf := nf) (sch := nI p) (asks := 1)).resolve_left (fun q => hb1 (eb.trans q))
  have hne : fa ≠ fb := fun e => by rw [e, hb4] at ha4; exact absurd ha4 (by decide)
  have ca : a.toNatClampNeg = fa := by rw [ea, hfa]; exact nI_clamp (by omega)
  have cb : b.toNatClampNeg = fb := by rw [eb, hfb]; exact nI_clamp (by omega)
  obtain ⟨hha, pa, k1, k2, k3, k4, k5⟩ := hof fa ha2
  obtain ⟨hhb, pb, l1, l2, l3, l4, l5⟩ := hof fb hb2
  have s1 : sn T (11680 + fa) = hha := sn_of ((hfr _ (by omega)).trans k1) (by omega)
  have s2 : sn T (11680 + fb) = hhb := sn_of ((hfr _ (by omega)).trans l1) (by omega)
  have s3 : sn T (11760 + fa) = pa := sn_of ((hfr _ (by omega)).trans k3) (by omega)
  have s4 : sn T (11760 + fb) = pb := sn_of ((hfr _ (by omega)).trans l3) (by omega)
  rw [ca, cb, s1, s2, s3, s4] at hK
  split at hK
  · cases hK
  have fA := (hg.1 fa ha2).1
  have fB := (hg.1 fb hb2).1
  have pA : 0 < sn T (11720 + fa) := by rcases Nat.eq_zero_or_pos (sn T (11720 + fa)) with e | e; (exfalso; apply ha5; rw [fA, e]; decide); exact e
  have pB : 0 < sn T (11720 + fb) := by rcases Nat.eq_zero_or_pos (sn T (11720 + fb)) with e | e; (exfalso; apply hb5; rw [fB, e]; decide); exact e
  have fH := hg.2.1 hha k2
  have fC := hg.2.2.2.1 hhb l2
  have bA := (hg.1 fa ha2).2
  have bB := (hg.1 fb hb2).2
  have bH := nsum_ge (F := fun k => sn T (11530 + 9 * si + k)) k2
  have bC := nsum_ge (F := fun k => sn T (192 + k)) l2
  have b3 := hg.2.2.1
  have b5 := hg.2.2.2.2
  have fD : T (192 + hhb) / nI pa = nI (sn T (192 + hhb) / pa) := by
    have hdv := pk_div (a := sn T (192 + hhb)) (d := pa) (by omega) (by omega) (by omega)
    rw [← hdv, ← fC]
  have bD : sn T (192 + hhb) / pa ≤ sn T (192 + hhb) := Nat.div_le_self _ _
  have bD2 : sn T (192 + hhb) / pa * pa ≤ sn T (192 + hhb) := Nat.div_mul_le_self _ _
  have hmin : ∃ n, n ≤ sn T (11720 + fa) ∧ n ≤ sn T (11720 + fb) ∧ n ≤ sn T (11530 + 9 * si + hha) ∧ n ≤ sn T (192 + hhb) / pa ∧ D_price_203 nf si p (we, a, b, T) fa fb hha hhb pa (nI n) = some r := by
    rw [fD, fA, fB, fH] at hK
    rw [show sn T (11720 + fa) = sn T (11720 + fa) from rfl] at hK
    split at hK
    · next c1 =>
      have c1 := nle c1 (by omega) (by omega)
      split at hK
      · next c2 =>
        have c2 := nle c2 (by omega) (by omega)
        split at hK
        · next c3 => have c3 := nle c3 (by omega) (by omega); exact ⟨_, c1, Nat.le_refl _, c2, c3, hK⟩
        · next c3 => have c3 := nnle c3 (by omega) (by omega); exact ⟨_, by omega, by omega, by omega, Nat.le_refl _, hK⟩
      · next c2 =>
        have c2 := nnle c2 (by omega) (by omega)
        split at hK
        · next c3 => have c3 := nle c3 (by omega) (by omega); exact ⟨_, by omega, by omega, Nat.le_refl _, c3, hK⟩
        · next c3 => have c3 := nnle c3 (by omega) (by omega); exact ⟨_, by omega, by omega, by omega, Nat.le_refl _, hK⟩
    · next c1 =>
      have c1 := nnle c1 (by omega) (by omega)
      split at hK
      · next c2 =>
        have c2 := nle c2 (by omega) (by omega)
        split at hK
        · next c3 => have c3 := nle c3 (by omega) (by omega); exact ⟨_, Nat.le_refl _, by omega, c2, c3, hK⟩
        · next c3 => have c3 := nnle c3 (by omega) (by omega); exact ⟨_, by omega, by omega, by omega, Nat.le_refl _, hK⟩
      · next c2 =>
        have c2 := nnle c2 (by omega) (by omega)
        split at hK
        · next c3 => have c3 := nle c3 (by omega) (by omega); exact ⟨_, by omega, by omega, Nat.le_refl _, c3, hK⟩
        · next c3 => have c3 := nnle c3 (by omega) (by omega); exact ⟨_, by omega, by omega, by omega, Nat.le_refl _, hK⟩
  clear hK
  obtain ⟨n, n1, n2, n3, n4, hD⟩ := hmin
  simp only [D_price_203] at hD
  split at hD
  · split at hD
    · cases hD
      obtain ⟨o1, o2⟩ := pr_out hg ha2 hnf40 hs pA
      exact ⟨⟨fun j hj => by show va_up T _ _ _ = _; rw [va_up_ne _ _ (by omega)]; exact hfr j hj, rfl, rfl, o1⟩, o2⟩
    · cases hD
      obtain ⟨o1, o2⟩ := pr_out hg hb2 hnf40 hs pB
      exact ⟨⟨fun j hj => by show va_up T _ _ _ = _; rw [va_up_ne _ _ (by omega)]; exact hfr j hj, rfl, rfl, o1⟩, o2⟩
  · next hn0 =>
    have n0 : 0 < n := by rcases Nat.eq_zero_or_pos n with e | e; (exfalso; apply hn0; rw [e]; rfl); exact e
    cases hD
    have n5 : n * pa ≤ sn T (192 + hhb) := Nat.le_trans (Nat.mul_le_mul_right pa n4) bD2
    obtain ⟨o1, o2⟩ := pr_go hg hnf40 hs ha2 hb2 hne k2 l2 n0 n1 n2 n3 n5 (nI pa) rfl rfl rfl rfl rfl rfl rfl
    refine ⟨⟨fun j hj => ?_, rfl, rfl, o1⟩, o2⟩
    show va_up (va_up (va_up (va_up (va_up (va_up (va_up T _ _) _ _) _ _) _ _) _ _) _ _) _ _ _ = _
    rw [va_up_ne _ _ (by omega), va_up_ne _ _ (by omega), va_up_ne _ _ (by omega), va_up_ne _ _ (by omega), va_up_ne _ _ (by omega), va_up_ne _ _ (by omega), va_up_ne _ _ (by omega)]
    exact hfr j hj
end PR
theorem c_price {w : Wd} {h : Hp} {m : Nat} {ad : Nat → Nat} {A : Nat → Nat → Int32} {B : Nat → Nat → Int64} {F S : Nat → Int32} (mb : MB h m ad) (sc : Int32) {np : Nat} (hnp : S 2 = nI np) (hnp60 : np ≤ 60) {nf : Nat} (hnf : S 8 = nI nf) (hnf40 : nf ≤ 40) (isp : ∀ p, p < np → S (370 + p) = 1 → ∃ i, i < 12 ∧ S (11490 + i) = nI p) (hof : prF S nf) (hin : ∀ p, p < np → S (370 + p) = 1 → prI0 S nf (sI S (nI p))) : Con w mX2_price cX2_price 5 0 0 [.ref m, .int sc] (ms h A B F S) (Rv (.int (o_price S nf sc).1) (ms h A B F (o_price S nf sc).2)) := by
  refine Con.of (by decide +kernel) rfl rfl ?_
  show V w mX2_price cX2_price 5 0 0 _ 0 [some (.ref m), some (.int sc), none, none, none, none, none, none, none] [] _
  refine V_aload0 eX2_price_0 rfl ?_
  refine V_iload1 eX2_price_1 ?_
  refine M_call mb eX2_price_2 lmX2_isScheme q2277 q2279 rfl qs86 (c_isScheme mb _ hnp hnp60) rfl rfl rfl rfl ?_
  refine V_ifne eX2_price_5 (fun c5 => ?_) (fun c5 => ?_)
  · have hz := bI_n0.mp c5
    obtain ⟨p, hp, rfl, hk⟩ := zof_get hz hnp hnp60
    have hpc : (nI p).toNatClampNeg = p := nI_clamp (by omega)
    have hsp := isp p hp hk
    have hsi12 := (sI_lt (Nat.le_refl 12) hsp).1
    obtain ⟨si, hsi⟩ : ∃ t, t = sI S (nI p) := ⟨_, rfl⟩
    rw [← hsi] at hsi12
    have hfr : ∀ j, (j < 192 ∨ 200 ≤ j ∧ j < 11514 ∨ 11638 ≤ j ∧ j < 11720 ∨ 11760 ≤ j) → S j = S j := fun j _ => rfl
    refine V_iconst (v := 0) (by decide) eX2_price_10 ?_
    refine V_istore2 rfl eX2_price_11 rfl ?_
    refine V_aload0 eX2_price_12 rfl ?_
    refine V_iload1 eX2_price_13 ?_
    refine V_iconst (v := 0) (by decide) eX2_price_14 ?_
    refine M_call mb eX2_price_15 lmX2_bestOf q2309 q2311 rfl qs90 (c_bestOf mb (nI p) (0 : Int32) hnf hnf40) rfl rfl rfl rfl ?_
    refine V_istore3 rfl eX2_price_18 rfl ?_
    refine V_aload0 eX2_price_19 rfl ?_
    refine V_iload1 eX2_price_20 ?_
    refine V_iconst (v := 1) (by decide) eX2_price_21 ?_
    refine M_call mb eX2_price_22 lmX2_bestOf q2309 q2311 rfl qs90 (c_bestOf mb (nI p) (1 : Int32) hnf hnf40) rfl rfl rfl rfl ?_
    refine V_istore4 rfl eX2_price_25 rfl ?_
    refine V.le (zle_c (zle_c (zle_c (zle_c (zle_c (zle_n (zle_n (zle_n (zle_n zle_0))))))))) (zwl (P := fun n27 => ∀ q27 : Int32 × Int32 × Int32 × (Nat → Int32), zwh (K_price_27 nf si p) zBIG ((0 : Int32), (o_bestOf S nf (nI p) (0 : Int32)), (o_bestOf S nf (nI p) (1 : Int32)), S) = zwh (K_price_27 nf si p) n27 q27 → (q27.2.2.2 8 = (nI nf)) → (∀ j, (j < 192 ∨ 200 ≤ j ∧ j < 11514 ∨ 11638 ≤ j ∧ j < 11720 ∨ 11760 ≤ j) → q27.2.2.2 j = S j) → (prI S nf p si q27) → (prM nf q27 ≤ n27) → V w mX2_price cX2_price 5 0 0 (ms h A B F q27.2.2.2) 27 [some (.ref m), some (.int (nI p)), some (.int q27.1), some (.int q27.2.1), some (.int q27.2.2.1), none, none, none, none] [] _) (fun n27 ih27 q27 hR27 hnf_1 hfr_2 hI hM => ?_) zBIG ((0 : Int32), (o_bestOf S nf (nI p) (0 : Int32)), (o_bestOf S nf (nI p) (1 : Int32)), S) rfl hnf hfr (pr_0 (hsi ▸ hin p hp hk)) (prM_0 (hsi ▸ hin p hp hk) hnf40))
    refine V_iload3 eX2_price_27 ?_
    refine V_iconst (v := -1) (by decide) eX2_price_28 ?_
    refine V_if_icmpeq eX2_price_29 (fun c29 => ?_) (fun c29 => ?_)
    · have hK27 : K_price_27 nf si p q27 = none := by simp only [K_price_27, hpc, if_pos c29]
      have hq27 : q27 = zwh (K_price_27 nf si p) zBIG ((0 : Int32), (o_bestOf S nf (nI p) (0 : Int32)), (o_bestOf S nf (nI p) (1 : Int32)), S) := (hR27.trans (zwh_n hK27)).symm
      refine V_iconst (v := 0) (by decide) eX2_price_408 ?_
      refine V_istore5 rfl eX2_price_409 rfl ?_
      refine V_iconst (v := 0) (by decide) eX2_price_411 ?_
      refine V_istore6 rfl eX2_price_412 rfl ?_
      refine V.le (zle_c (zle_c (zle_c (zle_n (zle_n (zle_c (zle_c (zle_n (zle_n zle_0))))))))) (zloop (P := fun f => ∀ q414 : Int32 × (Nat → Int32), q414 = zfold (K_price_414 p) f ((0 : Int32), q27.2.2.2) → (q414.2 8 = (nI nf)) → (∃ l, q414.1 = nI l ∧ l ≤ f) → V w mX2_price cX2_price 5 0 0 (ms h A B F q414.2) 414 [some (.ref m), some (.int (nI p)), some (.int q27.1), none, none, some (.int q414.1), some (.int (nI f)), none, none] [] _) nf (fun f hf ih414 q414 hq414 hnf_3 hL => ?_) 0 (Nat.zero_le _) ((0 : Int32), q27.2.2.2) rfl hnf_1 ⟨0, rfl, by omega⟩)
      refine V_iload6 eX2_price_414 ?_
      refine V_aload0 eX2_price_416 rfl ?_
      refine M_ga mb rfl eX2_price_417 fl_X2_8_2 ?_
      refine V_bipush (v := 8) (by decide) eX2_price_420 ?_
      refine M_sl (n := 8) mb rfl (by omega) hnf_3 eX2_price_422 ?_
      refine V_if_icmpge eX2_price_423 (fun c423 => ?_) (fun c423 => ?_)
      · have e414 : f = nf := by have := nle c423 (by omega) (by omega); omega
        rw [e414] at hq414
        refine V_aload0 eX2_price_560 rfl ?_
        refine M_ga mb rfl eX2_price_561 fl_X2_8_2 ?_
        refine V_bipush (v := 8) (by decide) eX2_price_564 ?_
        refine V_iload5 eX2_price_566 ?_
        refine M_ss (n := 8) mb rfl (by omega) eX2_price_568 ?_
        obtain ⟨S_4, hS_4⟩ : ∃ T, T = va_up q414.2 8 q414.1 := ⟨_, rfl⟩
        rw [← hS_4]
        refine V_iload2 eX2_price_569 ?_
        have hE : (q27.1, S_4) = o_price S nf (nI p) := by simp only [o_price, ← hsi, ← hq27, ← hq414, ← hS_4, hpc, if_neg c5]
        exact V_ireturn eX2_price_570 rfl (by rw [← hE]; exact ⟨rfl, rfl⟩)
      · have hl414 : f < nf := by have := nnle c423 (by omega) (by omega); omega
        obtain ⟨l, hl1, hl2⟩ := id hL
        have hlc : q414.1.toNatClampNeg = l := by rw [hl1]; exact nI_clamp (by omega)
        rw [hl1]
        refine V_aload0 eX2_price_426 rfl ?_
        refine M_ga mb rfl eX2_price_427 fl_X2_8_2 ?_
        refine V_sipush (v := 11640) (by decide) eX2_price_430 ?_
        refine V_iload6 eX2_price_433 ?_
        refine V_iadd eX2_price_435 ?_
        refine M_sl (n := (11640 + f)) mb (zadd rfl rfl) (by omega) rfl eX2_price_436 ?_
        refine V_iload1 eX2_price_437 ?_
        refine V_if_icmpeq eX2_price_438 (fun c438 => ?_) (fun c438 => ?_)
        · refine V_iincN6 rfl eX2_price_554 rfl ?_
          refine V_goto eX2_price_557 ?_
          exact V.le (zle_c (zle_c (zle_c (zle_n (zle_n (zle_c (zle_c (zle_n (zle_n zle_0))))))))) (ih414 hl414 ((nI l), q414.2) (by rw [zfold_s (n := f), ← hq414]; simp only [K_price_414, hpc, hlc, if_pos c438]) hnf_3 (by first | exact ⟨l, rfl, by omega⟩ | exact ⟨l + 1, rfl, by omega⟩))
        · refine V_aload0 eX2_price_441 rfl ?_
          refine M_ga mb rfl eX2_price_442 fl_X2_8_2 ?_
          refine V_sipush (v := 11640) (by decide) eX2_price_445 ?_
          refine V_iload5 eX2_price_448 ?_
          refine V_iadd eX2_price_450 ?_
          refine V_aload0 eX2_price_451 rfl ?_
          refine M_ga mb rfl eX2_price_452 fl_X2_8_2 ?_
          refine V_sipush (v := 11640) (by decide) eX2_price_455 ?_
          refine V_iload6 eX2_price_458 ?_
          refine V_iadd eX2_price_460 ?_
          refine M_sl (n := (11640 + f)) mb (zadd rfl rfl) (by omega) rfl eX2_price_461 ?_
          refine M_ss (n := (11640 + l)) mb (zadd rfl rfl) (by omega) eX2_price_462 ?_
          obtain ⟨S_5, hS_5⟩ : ∃ T, T = va_up q414.2 (11640 + l) (q414.2 (11640 + f)) := ⟨_, rfl⟩
          rw [← hS_5]
          have hnf_6 : S_5 8 = (nI nf) := by rw [hS_5]; exact rdn (by omega) hnf_3
          refine V_aload0 eX2_price_463 rfl ?_
          refine M_ga mb rfl eX2_price_464 fl_X2_8_2 ?_
          refine V_sipush (v := 11680) (by decide) eX2_price_467 ?_
          refine V_iload5 eX2_price_470 ?_
          refine V_iadd eX2_price_472 ?_
          refine V_aload0 eX2_price_473 rfl ?_
          refine M_ga mb rfl eX2_price_474 fl_X2_8_2 ?_
          refine V_sipush (v := 11680) (by decide) eX2_price_477 ?_
          refine V_iload6 eX2_price_480 ?_
          refine V_iadd eX2_price_482 ?_
          refine M_sl (n := (11680 + f)) mb (zadd rfl rfl) (by omega) rfl eX2_price_483 ?_
          refine M_ss (n := (11680 + l)) mb (zadd rfl rfl) (by omega) eX2_price_484 ?_
          obtain ⟨S_7, hS_7⟩ : ∃ T, T = va_up S_5 (11680 + l) (S_5 (11680 + f)) := ⟨_, rfl⟩
          rw [← hS_7]
          have hnf_8 : S_7 8 = (nI nf) := by rw [hS_7]; exact rdn (by omega) hnf_6
          refine V_aload0 eX2_price_485 rfl ?_
          refine M_ga mb rfl eX2_price_486 fl_X2_8_2 ?_
          refine V_sipush (v := 11720) (by decide) eX2_price_489 ?_
          refine V_iload5 eX2_price_492 ?_
          refine V_iadd eX2_price_494 ?_
          refine V_aload0 eX2_price_495 rfl ?_
          refine M_ga mb rfl eX2_price_496 fl_X2_8_2 ?_
          refine V_sipush (v := 11720) (by decide) eX2_price_499 ?_
          refine V_iload6 eX2_price_502 ?_
          refine V_iadd eX2_price_504 ?_
          refine M_sl (n := (11720 + f)) mb (zadd rfl rfl) (by omega) rfl eX2_price_505 ?_
          refine M_ss (n := (11720 + l)) mb (zadd rfl rfl) (by omega) eX2_price_506 ?_
          obtain ⟨S_9, hS_9⟩ : ∃ T, T = va_up S_7 (11720 + l) (S_7 (11720 + f)) := ⟨_, rfl⟩
          rw [← hS_9]
          have hnf_10 : S_9 8 = (nI nf) := by rw [hS_9]; exact rdn (by omega) hnf_8
          refine V_aload0 eX2_price_507 rfl ?_
          refine M_ga mb rfl eX2_price_508 fl_X2_8_2 ?_
          refine V_sipush (v := 11760) (by decide) eX2_price_511 ?_
          refine V_iload5 eX2_price_514 ?_
          refine V_iadd eX2_price_516 ?_
          refine V_aload0 eX2_price_517 rfl ?_
          refine M_ga mb rfl eX2_price_518 fl_X2_8_2 ?_
          refine V_sipush (v := 11760) (by decide) eX2_price_521 ?_
          refine V_iload6 eX2_price_524 ?_
          refine V_iadd eX2_price_526 ?_
          refine M_sl (n := (11760 + f)) mb (zadd rfl rfl) (by omega) rfl eX2_price_527 ?_
          refine M_ss (n := (11760 + l)) mb (zadd rfl rfl) (by omega) eX2_price_528 ?_
          obtain ⟨S_11, hS_11⟩ : ∃ T, T = va_up S_9 (11760 + l) (S_9 (11760 + f)) := ⟨_, rfl⟩
          rw [← hS_11]
          have hnf_12 : S_11 8 = (nI nf) := by rw [hS_11]; exact rdn (by omega) hnf_10
          refine V_aload0 eX2_price_529 rfl ?_
          refine M_ga mb rfl eX2_price_530 fl_X2_8_2 ?_
          refine V_sipush (v := 11800) (by decide) eX2_price_533 ?_
          refine V_iload5 eX2_price_536 ?_
          refine V_iadd eX2_price_538 ?_
          refine V_aload0 eX2_price_539 rfl ?_
          refine M_ga mb rfl eX2_price_540 fl_X2_8_2 ?_
          refine V_sipush (v := 11800) (by decide) eX2_price_543 ?_
          refine V_iload6 eX2_price_546 ?_
          refine V_iadd eX2_price_548 ?_
          refine M_sl (n := (11800 + f)) mb (zadd rfl rfl) (by omega) rfl eX2_price_549 ?_
          refine M_ss (n := (11800 + l)) mb (zadd rfl rfl) (by omega) eX2_price_550 ?_
          obtain ⟨S_13, hS_13⟩ : ∃ T, T = va_up S_11 (11800 + l) (S_11 (11800 + f)) := ⟨_, rfl⟩
          rw [← hS_13]
          have hnf_14 : S_13 8 = (nI nf) := by rw [hS_13]; exact rdn (by omega) hnf_12
          refine V_iincN5 rfl eX2_price_551 rfl ?_
          refine V_iincN6 rfl eX2_price_554 rfl ?_
          refine V_goto eX2_price_557 ?_
          exact V.le (zle_c (zle_c (zle_c (zle_n (zle_n (zle_c (zle_c (zle_n (zle_n zle_0))))))))) (ih414 hl414 ((nI (l + 1)), S_13) (by rw [zfold_s (n := f), ← hq414]; simp only [K_price_414, ← hS_5, ← hS_7, ← hS_9, ← hS_11, ← hS_13, hpc, hlc, if_neg c438]) hnf_14 (by first | exact ⟨l, rfl, by omega⟩ | exact ⟨l + 1, rfl, by omega⟩))
    · obtain ⟨fa, hfa, hfa2⟩ := pr_best hI.2.1 c29
      have hfac : q27.2.1.toNatClampNeg = fa := by rw [hfa]; exact nI_clamp (by omega)
      obtain ⟨ha, pa, hha, hha8, hpa, hpa1, hpa9⟩ := hof fa (by omega)
      refine V_iload4 eX2_price_32 ?_
      refine V_iconst (v := -1) (by decide) eX2_price_34 ?_
      refine V_if_icmpeq eX2_price_35 (fun c35 => ?_) (fun c35 => ?_)
      · have hK27 : K_price_27 nf si p q27 = none := by simp only [K_price_27, hpc, hfac, if_neg c29, if_pos c35]
        have hq27 : q27 = zwh (K_price_27 nf si p) zBIG ((0 : Int32), (o_bestOf S nf (nI p) (0 : Int32)), (o_bestOf S nf (nI p) (1 : Int32)), S) := (hR27.trans (zwh_n hK27)).symm
        refine V_iconst (v := 0) (by decide) eX2_price_408 ?_
        refine V_istore5 rfl eX2_price_409 rfl ?_
        refine V_iconst (v := 0) (by decide) eX2_price_411 ?_
        refine V_istore6 rfl eX2_price_412 rfl ?_
        refine V.le (zle_c (zle_c (zle_c (zle_n (zle_n (zle_c (zle_c (zle_n (zle_n zle_0))))))))) (zloop (P := fun f => ∀ q414 : Int32 × (Nat → Int32), q414 = zfold (K_price_414 p) f ((0 : Int32), q27.2.2.2) → (q414.2 8 = (nI nf)) → (∃ l, q414.1 = nI l ∧ l ≤ f) → V w mX2_price cX2_price 5 0 0 (ms h A B F q414.2) 414 [some (.ref m), some (.int (nI p)), some (.int q27.1), none, none, some (.int q414.1), some (.int (nI f)), none, none] [] _) nf (fun f hf ih414 q414 hq414 hnf_15 hL => ?_) 0 (Nat.zero_le _) ((0 : Int32), q27.2.2.2) rfl hnf_1 ⟨0, rfl, by omega⟩)
        refine V_iload6 eX2_price_414 ?_
        refine V_aload0 eX2_price_416 rfl ?_
        refine M_ga mb rfl eX2_price_417 fl_X2_8_2 ?_
        refine V_bipush (v := 8) (by decide) eX2_price_420 ?_
        refine M_sl (n := 8) mb rfl (by omega) hnf_15 eX2_price_422 ?_
        refine V_if_icmpge eX2_price_423 (fun c423 => ?_) (fun c423 => ?_)
        · have e414 : f = nf := by have := nle c423 (by omega) (by omega); omega
          rw [e414] at hq414
          refine V_aload0 eX2_price_560 rfl ?_
          refine M_ga mb rfl eX2_price_561 fl_X2_8_2 ?_
          refine V_bipush (v := 8) (by decide) eX2_price_564 ?_
          refine V_iload5 eX2_price_566 ?_
          refine M_ss (n := 8) mb rfl (by omega) eX2_price_568 ?_
          obtain ⟨S_16, hS_16⟩ : ∃ T, T = va_up q414.2 8 q414.1 := ⟨_, rfl⟩
          rw [← hS_16]
          refine V_iload2 eX2_price_569 ?_
          have hE : (q27.1, S_16) = o_price S nf (nI p) := by simp only [o_price, ← hsi, ← hq27, ← hq414, ← hS_16, hpc, hfac, if_neg c5]
          exact V_ireturn eX2_price_570 rfl (by rw [← hE]; exact ⟨rfl, rfl⟩)
        · have hl414 : f < nf := by have := nnle c423 (by omega) (by omega); omega
          obtain ⟨l, hl1, hl2⟩ := id hL
          have hlc : q414.1.toNatClampNeg = l := by rw [hl1]; exact nI_clamp (by omega)
          rw [hl1]
          refine V_aload0 eX2_price_426 rfl ?_
          refine M_ga mb rfl eX2_price_427 fl_X2_8_2 ?_
          refine V_sipush (v := 11640) (by decide) eX2_price_430 ?_
          refine V_iload6 eX2_price_433 ?_
          refine V_iadd eX2_price_435 ?_
          refine M_sl (n := (11640 + f)) mb (zadd rfl rfl) (by omega) rfl eX2_price_436 ?_
          refine V_iload1 eX2_price_437 ?_
          refine V_if_icmpeq eX2_price_438 (fun c438 => ?_) (fun c438 => ?_)
          · refine V_iincN6 rfl eX2_price_554 rfl ?_
            refine V_goto eX2_price_557 ?_
            exact V.le (zle_c (zle_c (zle_c (zle_n (zle_n (zle_c (zle_c (zle_n (zle_n zle_0))))))))) (ih414 hl414 ((nI l), q414.2) (by rw [zfold_s (n := f), ← hq414]; simp only [K_price_414, hpc, hfac, hlc, if_pos c438]) hnf_15 (by first | exact ⟨l, rfl, by omega⟩ | exact ⟨l + 1, rfl, by omega⟩))
          · refine V_aload0 eX2_price_441 rfl ?_
            refine M_ga mb rfl eX2_price_442 fl_X2_8_2 ?_
            refine V_sipush (v := 11640) (by decide) eX2_price_445 ?_
            refine V_iload5 eX2_price_448 ?_
            refine V_iadd eX2_price_450 ?_
            refine V_aload0 eX2_price_451 rfl ?_
            refine M_ga mb rfl eX2_price_452 fl_X2_8_2 ?_
            refine V_sipush (v := 11640) (by decide) eX2_price_455 ?_
            refine V_iload6 eX2_price_458 ?_
            refine V_iadd eX2_price_460 ?_
            refine M_sl (n := (11640 + f)) mb (zadd rfl rfl) (by omega) rfl eX2_price_461 ?_
            refine M_ss (n := (11640 + l)) mb (zadd rfl rfl) (by omega) eX2_price_462 ?_
            obtain ⟨S_17, hS_17⟩ : ∃ T, T = va_up q414.2 (11640 + l) (q414.2 (11640 + f)) := ⟨_, rfl⟩
            rw [← hS_17]
            have hnf_18 : S_17 8 = (nI nf) := by rw [hS_17]; exact rdn (by omega) hnf_15
            refine V_aload0 eX2_price_463 rfl ?_
            refine M_ga mb rfl eX2_price_464 fl_X2_8_2 ?_
            refine V_sipush (v := 11680) (by decide) eX2_price_467 ?_
            refine V_iload5 eX2_price_470 ?_
            refine V_iadd eX2_price_472 ?_
            refine V_aload0 eX2_price_473 rfl ?_
            refine M_ga mb rfl eX2_price_474 fl_X2_8_2 ?_
            refine V_sipush (v := 11680) (by decide) eX2_price_477 ?_
            refine V_iload6 eX2_price_480 ?_
            refine V_iadd eX2_price_482 ?_
            refine M_sl (n := (11680 + f)) mb (zadd rfl rfl) (by omega) rfl eX2_price_483 ?_
            refine M_ss (n := (11680 + l)) mb (zadd rfl rfl) (by omega) eX2_price_484 ?_
            obtain ⟨S_19, hS_19⟩ : ∃ T, T = va_up S_17 (11680 + l) (S_17 (11680 + f)) := ⟨_, rfl⟩
            rw [← hS_19]
            have hnf_20 : S_19 8 = (nI nf) := by rw [hS_19]; exact rdn (by omega) hnf_18
            refine V_aload0 eX2_price_485 rfl ?_
            refine M_ga mb rfl eX2_price_486 fl_X2_8_2 ?_
            refine V_sipush (v := 11720) (by decide) eX2_price_489 ?_
            refine V_iload5 eX2_price_492 ?_
            refine V_iadd eX2_price_494 ?_
            refine V_aload0 eX2_price_495 rfl ?_
            refine M_ga mb rfl eX2_price_496 fl_X2_8_2 ?_
            refine V_sipush (v := 11720) (by decide) eX2_price_499 ?_
            refine V_iload6 eX2_price_502 ?_
            refine V_iadd eX2_price_504 ?_
            refine M_sl (n := (11720 + f)) mb (zadd rfl rfl) (by omega) rfl eX2_price_505 ?_
            refine M_ss (n := (11720 + l)) mb (zadd rfl rfl) (by omega) eX2_price_506 ?_
            obtain ⟨S_21, hS_21⟩ : ∃ T, T = va_up S_19 (11720 + l) (S_19 (11720 + f)) := ⟨_, rfl⟩
            rw [← hS_21]
            have hnf_22 : S_21 8 = (nI nf) := by rw [hS_21]; exact rdn (by omega) hnf_20
            refine V_aload0 eX2_price_507 rfl ?_
            refine M_ga mb rfl eX2_price_508 fl_X2_8_2 ?_
            refine V_sipush (v := 11760) (by decide) eX2_price_511 ?_
            refine V_iload5 eX2_price_514 ?_
            refine V_iadd eX2_price_516 ?_
            refine V_aload0 eX2_price_517 rfl ?_
            refine M_ga mb rfl eX2_price_518 fl_X2_8_2 ?_
            refine V_sipush (v := 11760) (by decide) eX2_price_521 ?_
            refine V_iload6 eX2_price_524 ?_
            refine V_iadd eX2_price_526 ?_
            refine M_sl (n := (11760 + f)) mb (zadd rfl rfl) (by omega) rfl eX2_price_527 ?_
            refine M_ss (n := (11760 + l)) mb (zadd rfl rfl) (by omega) eX2_price_528 ?_
            obtain ⟨S_23, hS_23⟩ : ∃ T, T = va_up S_21 (11760 + l) (S_21 (11760 + f)) := ⟨_, rfl⟩
            rw [← hS_23]
            have hnf_24 : S_23 8 = (nI nf) := by rw [hS_23]; exact rdn (by omega) hnf_22
            refine V_aload0 eX2_price_529 rfl ?_
            refine M_ga mb rfl eX2_price_530 fl_X2_8_2 ?_
            refine V_sipush (v := 11800) (by decide) eX2_price_533 ?_
            refine V_iload5 eX2_price_536 ?_
            refine V_iadd eX2_price_538 ?_
            refine V_aload0 eX2_price_539 rfl ?_
            refine M_ga mb rfl eX2_price_540 fl_X2_8_2 ?_
            refine V_sipush (v := 11800) (by decide) eX2_price_543 ?_
            refine V_iload6 eX2_price_546 ?_
            refine V_iadd eX2_price_548 ?_
            refine M_sl (n := (11800 + f)) mb (zadd rfl rfl) (by omega) rfl eX2_price_549 ?_
            refine M_ss (n := (11800 + l)) mb (zadd rfl rfl) (by omega) eX2_price_550 ?_
            obtain ⟨S_25, hS_25⟩ : ∃ T, T = va_up S_23 (11800 + l) (S_23 (11800 + f)) := ⟨_, rfl⟩
            rw [← hS_25]
            have hnf_26 : S_25 8 = (nI nf) := by rw [hS_25]; exact rdn (by omega) hnf_24
            refine V_iincN5 rfl eX2_price_551 rfl ?_
            refine V_iincN6 rfl eX2_price_554 rfl ?_
            refine V_goto eX2_price_557 ?_
            exact V.le (zle_c (zle_c (zle_c (zle_n (zle_n (zle_c (zle_c (zle_n (zle_n zle_0))))))))) (ih414 hl414 ((nI (l + 1)), S_25) (by rw [zfold_s (n := f), ← hq414]; simp only [K_price_414, ← hS_17, ← hS_19, ← hS_21, ← hS_23, ← hS_25, hpc, hfac, hlc, if_neg c438]) hnf_26 (by first | exact ⟨l, rfl, by omega⟩ | exact ⟨l + 1, rfl, by omega⟩))
      · obtain ⟨fb, hfb, hfb2⟩ := pr_best hI.2.2.1 c35
        have hfbc : q27.2.2.1.toNatClampNeg = fb := by rw [hfb]; exact nI_clamp (by omega)
        obtain ⟨hb, pb, hhb, hhb8, hpb, hpb1, hpb9⟩ := hof fb (by omega)
        have xha : q27.2.2.2 (11680 + fa) = nI ha := (hfr_2 _ (by omega)).trans hha
        have xhas : sn q27.2.2.2 (11680 + fa) = ha := sn_of xha (by omega)
        have xhb : q27.2.2.2 (11680 + fb) = nI hb := (hfr_2 _ (by omega)).trans hhb
        have xhbs : sn q27.2.2.2 (11680 + fb) = hb := sn_of xhb (by omega)
        have xpa : q27.2.2.2 (11760 + fa) = nI pa := (hfr_2 _ (by omega)).trans hpa
        have xpas : sn q27.2.2.2 (11760 + fa) = pa := sn_of xpa (by omega)
        have xpb : q27.2.2.2 (11760 + fb) = nI pb := (hfr_2 _ (by omega)).trans hpb
        have xpbs : sn q27.2.2.2 (11760 + fb) = pb := sn_of xpb (by omega)
        refine V_aload0 eX2_price_38 rfl ?_
        refine M_ga mb rfl eX2_price_39 fl_X2_8_2 ?_
        refine V_sipush (v := 11760) (by decide) eX2_price_42 ?_
        refine V_iload4 eX2_price_45 ?_
        refine V_iadd eX2_price_47 ?_
        refine M_sl (n := (11760 + fb)) mb (zadd rfl hfb) (by omega) xpb eX2_price_48 ?_
        refine V_aload0 eX2_price_49 rfl ?_
        refine M_ga mb rfl eX2_price_50 fl_X2_8_2 ?_
        refine V_sipush (v := 11760) (by decide) eX2_price_53 ?_
        refine V_iload3 eX2_price_56 ?_
        refine V_iadd eX2_price_57 ?_
        refine M_sl (n := (11760 + fa)) mb (zadd rfl hfa) (by omega) xpa eX2_price_58 ?_
        refine V_if_icmplt eX2_price_59 (fun c59 => ?_) (fun c59 => ?_)
        · have hK27 : K_price_27 nf si p q27 = none := by simp only [K_price_27, hpc, hfac, hfbc, xhas, xhbs, xpas, xpbs, if_neg c29, if_neg c35, if_pos c59]
          have hq27 : q27 = zwh (K_price_27 nf si p) zBIG ((0 : Int32), (o_bestOf S nf (nI p) (0 : Int32)), (o_bestOf S nf (nI p) (1 : Int32)), S) := (hR27.trans (zwh_n hK27)).symm
          refine V_iconst (v := 0) (by decide) eX2_price_408 ?_
          refine V_istore5 rfl eX2_price_409 rfl ?_
          refine V_iconst (v := 0) (by decide) eX2_price_411 ?_
          refine V_istore6 rfl eX2_price_412 rfl ?_
          refine V.le (zle_c (zle_c (zle_c (zle_n (zle_n (zle_c (zle_c (zle_n (zle_n zle_0))))))))) (zloop (P := fun f => ∀ q414 : Int32 × (Nat → Int32), q414 = zfold (K_price_414 p) f ((0 : Int32), q27.2.2.2) → (q414.2 8 = (nI nf)) → (∃ l, q414.1 = nI l ∧ l ≤ f) → V w mX2_price cX2_price 5 0 0 (ms h A B F q414.2) 414 [some (.ref m), some (.int (nI p)), some (.int q27.1), none, none, some (.int q414.1), some (.int (nI f)), none, none] [] _) nf (fun f hf ih414 q414 hq414 hnf_27 hL => ?_) 0 (Nat.zero_le _) ((0 : Int32), q27.2.2.2) rfl hnf_1 ⟨0, rfl, by omega⟩)
          refine V_iload6 eX2_price_414 ?_
          refine V_aload0 eX2_price_416 rfl ?_
          refine M_ga mb rfl eX2_price_417 fl_X2_8_2 ?_
          refine V_bipush (v := 8) (by decide) eX2_price_420 ?_
          refine M_sl (n := 8) mb rfl (by omega) hnf_27 eX2_price_422 ?_
          refine V_if_icmpge eX2_price_423 (fun c423 => ?_) (fun c423 => ?_)
          · have e414 : f = nf := by have := nle c423 (by omega) (by omega); omega
            rw [e414] at hq414
            refine V_aload0 eX2_price_560 rfl ?_
            refine M_ga mb rfl eX2_price_561 fl_X2_8_2 ?_
            refine V_bipush (v := 8) (by decide) eX2_price_564 ?_
            refine V_iload5 eX2_price_566 ?_
            refine M_ss (n := 8) mb rfl (by omega) eX2_price_568 ?_
            obtain ⟨S_28, hS_28⟩ : ∃ T, T = va_up q414.2 8 q414.1 := ⟨_, rfl⟩
            rw [← hS_28]
            refine V_iload2 eX2_price_569 ?_
            have hE : (q27.1, S_28) = o_price S nf (nI p) := by simp only [o_price, ← hsi, ← hq27, ← hq414, ← hS_28, hpc, hfac, hfbc, xhas, xhbs, xpas, xpbs, if_neg c5]
            exact V_ireturn eX2_price_570 rfl (by rw [← hE]; exact ⟨rfl, rfl⟩)
          · have hl414 : f < nf := by have := nnle c423 (by omega) (by omega); omega
            obtain ⟨l, hl1, hl2⟩ := id hL
            have hlc : q414.1.toNatClampNeg = l := by rw [hl1]; exact nI_clamp (by omega)
            rw [hl1]
            refine V_aload0 eX2_price_426 rfl ?_
            refine M_ga mb rfl eX2_price_427 fl_X2_8_2 ?_
            refine V_sipush (v := 11640) (by decide) eX2_price_430 ?_
            refine V_iload6 eX2_price_433 ?_
            refine V_iadd eX2_price_435 ?_
            refine M_sl (n := (11640 + f)) mb (zadd rfl rfl) (by omega) rfl eX2_price_436 ?_
            refine V_iload1 eX2_price_437 ?_
            refine V_if_icmpeq eX2_price_438 (fun c438 => ?_) (fun c438 => ?_)
            · refine V_iincN6 rfl eX2_price_554 rfl ?_
              refine V_goto eX2_price_557 ?_
              exact V.le (zle_c (zle_c (zle_c (zle_n (zle_n (zle_c (zle_c (zle_n (zle_n zle_0))))))))) (ih414 hl414 ((nI l), q414.2) (by rw [zfold_s (n := f), ← hq414]; simp only [K_price_414, hpc, hfac, hfbc, xhas, xhbs, xpas, xpbs, hlc, if_pos c438]) hnf_27 (by first | exact ⟨l, rfl, by omega⟩ | exact ⟨l + 1, rfl, by omega⟩))
            · refine V_aload0 eX2_price_441 rfl ?_
              refine M_ga mb rfl eX2_price_442 fl_X2_8_2 ?_
              refine V_sipush (v := 11640) (by decide) eX2_price_445 ?_
              refine V_iload5 eX2_price_448 ?_
              refine V_iadd eX2_price_450 ?_
              refine V_aload0 eX2_price_451 rfl ?_
              refine M_ga mb rfl eX2_price_452 fl_X2_8_2 ?_
              refine V_sipush (v := 11640) (by decide) eX2_price_455 ?_
              refine V_iload6 eX2_price_458 ?_
              refine V_iadd eX2_price_460 ?_
              refine M_sl (n := (11640 + f)) mb (zadd rfl rfl) (by omega) rfl eX2_price_461 ?_
              refine M_ss (n := (11640 + l)) mb (zadd rfl rfl) (by omega) eX2_price_462 ?_
              obtain ⟨S_29, hS_29⟩ : ∃ T, T = va_up q414.2 (11640 + l) (q414.2 (11640 + f)) := ⟨_, rfl⟩
              rw [← hS_29]
              have hnf_30 : S_29 8 = (nI nf) := by rw [hS_29]; exact rdn (by omega) hnf_27
              refine V_aload0 eX2_price_463 rfl ?_
              refine M_ga mb rfl eX2_price_464 fl_X2_8_2 ?_
              refine V_sipush (v := 11680) (by decide) eX2_price_467 ?_
              refine V_iload5 eX2_price_470 ?_
              refine V_iadd eX2_price_472 ?_
              refine V_aload0 eX2_price_473 rfl ?_
              refine M_ga mb rfl eX2_price_474 fl_X2_8_2 ?_
              refine V_sipush (v := 11680) (by decide) eX2_price_477 ?_
              refine V_iload6 eX2_price_480 ?_
              refine V_iadd eX2_price_482 ?_
              refine M_sl (n := (11680 + f)) mb (zadd rfl rfl) (by omega) rfl eX2_price_483 ?_
              refine M_ss (n := (11680 + l)) mb (zadd rfl rfl) (by omega) eX2_price_484 ?_
              obtain ⟨S_31, hS_31⟩ : ∃ T, T = va_up S_29 (11680 + l) (S_29 (11680 + f)) := ⟨_, rfl⟩
              rw [← hS_31]
              have hnf_32 : S_31 8 = (nI nf) := by rw [hS_31]; exact rdn (by omega) hnf_30
              refine V_aload0 eX2_price_485 rfl ?_
              refine M_ga mb rfl eX2_price_486 fl_X2_8_2 ?_
              refine V_sipush (v := 11720) (by decide) eX2_price_489 ?_
              refine V_iload5 eX2_price_492 ?_
              refine V_iadd eX2_price_494 ?_
              refine V_aload0 eX2_price_495 rfl ?_
              refine M_ga mb rfl eX2_price_496 fl_X2_8_2 ?_
              refine V_sipush (v := 11720) (by decide) eX2_price_499 ?_
              refine V_iload6 eX2_price_502 ?_
              refine V_iadd eX2_price_504 ?_
              refine M_sl (n := (11720 + f)) mb (zadd rfl rfl) (by omega) rfl eX2_price_505 ?_
              refine M_ss (n := (11720 + l)) mb (zadd rfl rfl) (by omega) eX2_price_506 ?_
              obtain ⟨S_33, hS_33⟩ : ∃ T, T = va_up S_31 (11720 + l) (S_31 (11720 + f)) := ⟨_, rfl⟩
              rw [← hS_33]
              have hnf_34 : S_33 8 = (nI nf) := by rw [hS_33]; exact rdn (by omega) hnf_32
              refine V_aload0 eX2_price_507 rfl ?_
              refine M_ga mb rfl eX2_price_508 fl_X2_8_2 ?_
              refine V_sipush (v := 11760) (by decide) eX2_price_511 ?_
              refine V_iload5 eX2_price_514 ?_
              refine V_iadd eX2_price_516 ?_
              refine V_aload0 eX2_price_517 rfl ?_
              refine M_ga mb rfl eX2_price_518 fl_X2_8_2 ?_
              refine V_sipush (v := 11760) (by decide) eX2_price_521 ?_
              refine V_iload6 eX2_price_524 ?_
              refine V_iadd eX2_price_526 ?_
              refine M_sl (n := (11760 + f)) mb (zadd rfl rfl) (by omega) rfl eX2_price_527 ?_
              refine M_ss (n := (11760 + l)) mb (zadd rfl rfl) (by omega) eX2_price_528 ?_
              obtain ⟨S_35, hS_35⟩ : ∃ T, T = va_up S_33 (11760 + l) (S_33 (11760 + f)) := ⟨_, rfl⟩
              rw [← hS_35]
              have hnf_36 : S_35 8 = (nI nf) := by rw [hS_35]; exact rdn (by omega) hnf_34
              refine V_aload0 eX2_price_529 rfl ?_
              refine M_ga mb rfl eX2_price_530 fl_X2_8_2 ?_
              refine V_sipush (v := 11800) (by decide) eX2_price_533 ?_
              refine V_iload5 eX2_price_536 ?_
              refine V_iadd eX2_price_538 ?_
              refine V_aload0 eX2_price_539 rfl ?_
              refine M_ga mb rfl eX2_price_540 fl_X2_8_2 ?_
              refine V_sipush (v := 11800) (by decide) eX2_price_543 ?_
              refine V_iload6 eX2_price_546 ?_
              refine V_iadd eX2_price_548 ?_
              refine M_sl (n := (11800 + f)) mb (zadd rfl rfl) (by omega) rfl eX2_price_549 ?_
              refine M_ss (n := (11800 + l)) mb (zadd rfl rfl) (by omega) eX2_price_550 ?_
              obtain ⟨S_37, hS_37⟩ : ∃ T, T = va_up S_35 (11800 + l) (S_35 (11800 + f)) := ⟨_, rfl⟩
              rw [← hS_37]
              have hnf_38 : S_37 8 = (nI nf) := by rw [hS_37]; exact rdn (by omega) hnf_36
              refine V_iincN5 rfl eX2_price_551 rfl ?_
              refine V_iincN6 rfl eX2_price_554 rfl ?_
              refine V_goto eX2_price_557 ?_
              exact V.le (zle_c (zle_c (zle_c (zle_n (zle_n (zle_c (zle_c (zle_n (zle_n zle_0))))))))) (ih414 hl414 ((nI (l + 1)), S_37) (by rw [zfold_s (n := f), ← hq414]; simp only [K_price_414, ← hS_29, ← hS_31, ← hS_33, ← hS_35, ← hS_37, hpc, hfac, hfbc, xhas, xhbs, xpas, xpbs, hlc, if_neg c438]) hnf_38 (by first | exact ⟨l, rfl, by omega⟩ | exact ⟨l + 1, rfl, by omega⟩))
        · refine V_aload0 eX2_price_62 rfl ?_
          refine M_ga mb rfl eX2_price_63 fl_X2_8_2 ?_
          refine V_sipush (v := 11760) (by decide) eX2_price_66 ?_
          refine V_iload3 eX2_price_69 ?_
          refine V_iadd eX2_price_70 ?_
          refine M_sl (n := (11760 + fa)) mb (zadd rfl hfa) (by omega) xpa eX2_price_71 ?_
          refine V_istore5 rfl eX2_price_72 rfl ?_
          refine V_aload0 eX2_price_74 rfl ?_
          refine M_ga mb rfl eX2_price_75 fl_X2_8_2 ?_
          refine V_aload0 eX2_price_78 rfl ?_
          refine V_iload1 eX2_price_79 ?_
          refine V_aload0 eX2_price_80 rfl ?_
          refine M_ga mb rfl eX2_price_81 fl_X2_8_2 ?_
          refine V_sipush (v := 11680) (by decide) eX2_price_84 ?_
          refine V_iload3 eX2_price_87 ?_
          refine V_iadd eX2_price_88 ?_
          refine M_sl (n := (11680 + fa)) mb (zadd rfl hfa) (by omega) xha eX2_price_89 ?_
          refine M_call mb eX2_price_90 lmX2_sharesAt q2285 q2287 rfl qs88 (c_sharesAt mb (p := nI p) (pr_sp hfr_2 hsp) ha) rfl rfl rfl rfl ?_
          rw [show sI q27.2.2.2 (nI p) = si from (pr_sI hfr_2).trans hsi.symm]
          refine M_sl (n := (11530 + 9 * si + ha)) mb rfl (by omega) rfl eX2_price_93 ?_
          refine V_istore6 rfl eX2_price_94 rfl ?_
          refine V_aload0 eX2_price_96 rfl ?_
          refine M_ga mb rfl eX2_price_97 fl_X2_8_2 ?_
          refine V_sipush (v := 192) (by decide) eX2_price_100 ?_
          refine V_aload0 eX2_price_103 rfl ?_
          refine M_ga mb rfl eX2_price_104 fl_X2_8_2 ?_
          refine V_sipush (v := 11680) (by decide) eX2_price_107 ?_
          refine V_iload4 eX2_price_110 ?_
          refine V_iadd eX2_price_112 ?_
          refine M_sl (n := (11680 + fb)) mb (zadd rfl hfb) (by omega) xhb eX2_price_113 ?_
          refine V_iadd eX2_price_114 ?_
          refine M_sl (n := (192 + hb)) mb (zadd rfl rfl) (by omega) rfl eX2_price_115 ?_
          refine V_iload5 eX2_price_116 ?_
          refine V_idiv (nI_ne0 (by omega) (by omega)) eX2_price_118 ?_
          refine V_istore7 rfl eX2_price_119 rfl ?_
          have J203 : ∀ (n8 : Int32), K_price_27 nf si p q27 = D_price_203 nf si p q27 fa fb ha hb pa n8 → V w mX2_price cX2_price 5 0 0 (ms h A B F q27.2.2.2) 203 [some (.ref m), some (.int (nI p)), some (.int q27.1), some (.int q27.2.1), some (.int q27.2.2.1), some (.int (nI pa)), some (.int (q27.2.2.2 (11530 + 9 * si + ha))), none, some (.int n8)] [] (Rv (.int (o_price S nf (nI p)).1) (ms h A B F (o_price S nf (nI p)).2)) := by
            intro n8 hj203 
            refine V_iload8 eX2_price_203 ?_
            refine V_ifne eX2_price_205 (fun c205 => ?_) (fun c205 => ?_)
            · refine V_aload0 eX2_price_232 rfl ?_
              refine M_ga mb rfl eX2_price_233 fl_X2_8_2 ?_
              refine V_aload0 eX2_price_236 rfl ?_
              refine V_iload1 eX2_price_237 ?_
              refine V_aload0 eX2_price_238 rfl ?_
              refine M_ga mb rfl eX2_price_239 fl_X2_8_2 ?_
              refine V_sipush (v := 11680) (by decide) eX2_price_242 ?_
              refine V_iload3 eX2_price_245 ?_
              refine V_iadd eX2_price_246 ?_
              refine M_sl (n := (11680 + fa)) mb (zadd rfl hfa) (by omega) xha eX2_price_247 ?_
              refine M_call mb eX2_price_248 lmX2_sharesAt q2285 q2287 rfl qs88 (c_sharesAt mb (p := nI p) (pr_sp hfr_2 hsp) ha) rfl rfl rfl rfl ?_
              rw [show sI q27.2.2.2 (nI p) = si from (pr_sI hfr_2).trans hsi.symm]
              refine V_dup2 rfl rfl eX2_price_251 ?_
              refine M_sl (n := (11530 + 9 * si + ha)) mb rfl (by omega) rfl eX2_price_252 ?_
              refine V_iload8 eX2_price_253 ?_
              refine V_isub eX2_price_255 ?_
              refine M_ss (n := (11530 + 9 * si + ha)) mb rfl (by omega) eX2_price_256 ?_
              obtain ⟨S_39, hS_39⟩ : ∃ T, T = va_up q27.2.2.2 (11530 + 9 * si + ha) ((q27.2.2.2 (11530 + 9 * si + ha)) - n8) := ⟨_, rfl⟩
              rw [← hS_39]
              have hnf_40 : S_39 8 = (nI nf) := by rw [hS_39]; exact rdn (by omega) hnf_1
              have hfr_41 : ∀ j, (j < 192 ∨ 200 ≤ j ∧ j < 11514 ∨ 11638 ≤ j ∧ j < 11720 ∨ 11760 ≤ j) → S_39 j = S j := by rw [hS_39]; exact (fun j hj => by rw [va_up_ne _ _ (by omega)]; exact hfr_2 j hj)
              have xha_42 : S_39 (11680 + fa) = (nI ha) := by rw [hS_39]; exact rdn (by omega) xha
              have xhb_43 : S_39 (11680 + fb) = (nI hb) := by rw [hS_39]; exact rdn (by omega) xhb
              have xpa_44 : S_39 (11760 + fa) = (nI pa) := by rw [hS_39]; exact rdn (by omega) xpa
              have xpb_45 : S_39 (11760 + fb) = (nI pb) := by rw [hS_39]; exact rdn (by omega) xpb
              refine V_aload0 eX2_price_257 rfl ?_
              refine M_ga mb rfl eX2_price_258 fl_X2_8_2 ?_
              refine V_aload0 eX2_price_261 rfl ?_
              refine V_iload1 eX2_price_262 ?_
              refine V_aload0 eX2_price_263 rfl ?_
              refine M_ga mb rfl eX2_price_264 fl_X2_8_2 ?_
              refine V_sipush (v := 11680) (by decide) eX2_price_267 ?_
              refine V_iload4 eX2_price_270 ?_
              refine V_iadd eX2_price_272 ?_
              refine M_sl (n := (11680 + fb)) mb (zadd rfl hfb) (by omega) xhb_43 eX2_price_273 ?_
              refine M_call mb eX2_price_274 lmX2_sharesAt q2285 q2287 rfl qs88 (c_sharesAt mb (p := nI p) (pr_sp hfr_41 hsp) hb) rfl rfl rfl rfl ?_
              rw [show sI S_39 (nI p) = si from (pr_sI hfr_41).trans hsi.symm]
              refine V_dup2 rfl rfl eX2_price_277 ?_
              refine M_sl (n := (11530 + 9 * si + hb)) mb rfl (by omega) rfl eX2_price_278 ?_
              refine V_iload8 eX2_price_279 ?_
              refine V_iadd eX2_price_281 ?_
              refine M_ss (n := (11530 + 9 * si + hb)) mb rfl (by omega) eX2_price_282 ?_
              obtain ⟨S_46, hS_46⟩ : ∃ T, T = va_up S_39 (11530 + 9 * si + hb) ((S_39 (11530 + 9 * si + hb)) + n8) := ⟨_, rfl⟩
              rw [← hS_46]
              have hnf_47 : S_46 8 = (nI nf) := by rw [hS_46]; exact rdn (by omega) hnf_40
              have hfr_48 : ∀ j, (j < 192 ∨ 200 ≤ j ∧ j < 11514 ∨ 11638 ≤ j ∧ j < 11720 ∨ 11760 ≤ j) → S_46 j = S j := by rw [hS_46]; exact (fun j hj => by rw [va_up_ne _ _ (by omega)]; exact hfr_41 j hj)
              have xha_49 : S_46 (11680 + fa) = (nI ha) := by rw [hS_46]; exact rdn (by omega) xha_42
              have xhb_50 : S_46 (11680 + fb) = (nI hb) := by rw [hS_46]; exact rdn (by omega) xhb_43
              have xpa_51 : S_46 (11760 + fa) = (nI pa) := by rw [hS_46]; exact rdn (by omega) xpa_44
              have xpb_52 : S_46 (11760 + fb) = (nI pb) := by rw [hS_46]; exact rdn (by omega) xpb_45
              refine V_aload0 eX2_price_283 rfl ?_
              refine M_ga mb rfl eX2_price_284 fl_X2_8_2 ?_
              refine V_sipush (v := 192) (by decide) eX2_price_287 ?_
              refine V_aload0 eX2_price_290 rfl ?_
              refine M_ga mb rfl eX2_price_291 fl_X2_8_2 ?_
              refine V_sipush (v := 11680) (by decide) eX2_price_294 ?_
              refine V_iload4 eX2_price_297 ?_
              refine V_iadd eX2_price_299 ?_
              refine M_sl (n := (11680 + fb)) mb (zadd rfl hfb) (by omega) xhb_50 eX2_price_300 ?_
              refine V_iadd eX2_price_301 ?_
              refine V_dup2 rfl rfl eX2_price_302 ?_
              refine M_sl (n := (192 + hb)) mb (zadd rfl rfl) (by omega) rfl eX2_price_303 ?_
              refine V_iload8 eX2_price_304 ?_
              refine V_iload5 eX2_price_306 ?_
              refine V_imul eX2_price_308 ?_
              refine V_isub eX2_price_309 ?_
              refine M_ss (n := (192 + hb)) mb (zadd rfl rfl) (by omega) eX2_price_310 ?_
              obtain ⟨S_53, hS_53⟩ : ∃ T, T = va_up S_46 (192 + hb) ((S_46 (192 + hb)) - (n8 * (nI pa))) := ⟨_, rfl⟩
              rw [← hS_53]
              have hnf_54 : S_53 8 = (nI nf) := by rw [hS_53]; exact rdn (by omega) hnf_47
              have hfr_55 : ∀ j, (j < 192 ∨ 200 ≤ j ∧ j < 11514 ∨ 11638 ≤ j ∧ j < 11720 ∨ 11760 ≤ j) → S_53 j = S j := by rw [hS_53]; exact (fun j hj => by rw [va_up_ne _ _ (by omega)]; exact hfr_48 j hj)
              have xha_56 : S_53 (11680 + fa) = (nI ha) := by rw [hS_53]; exact rdn (by omega) xha_49
              have xhb_57 : S_53 (11680 + fb) = (nI hb) := by rw [hS_53]; exact rdn (by omega) xhb_50
              have xpa_58 : S_53 (11760 + fa) = (nI pa) := by rw [hS_53]; exact rdn (by omega) xpa_51
              have xpb_59 : S_53 (11760 + fb) = (nI pb) := by rw [hS_53]; exact rdn (by omega) xpb_52
              refine V_aload0 eX2_price_311 rfl ?_
              refine M_ga mb rfl eX2_price_312 fl_X2_8_2 ?_
              refine V_sipush (v := 192) (by decide) eX2_price_315 ?_
              refine V_aload0 eX2_price_318 rfl ?_
              refine M_ga mb rfl eX2_price_319 fl_X2_8_2 ?_
              refine V_sipush (v := 11680) (by decide) eX2_price_322 ?_
              refine V_iload3 eX2_price_325 ?_
              refine V_iadd eX2_price_326 ?_
              refine M_sl (n := (11680 + fa)) mb (zadd rfl hfa) (by omega) xha_56 eX2_price_327 ?_
              refine V_iadd eX2_price_328 ?_
              refine V_dup2 rfl rfl eX2_price_329 ?_
              refine M_sl (n := (192 + ha)) mb (zadd rfl rfl) (by omega) rfl eX2_price_330 ?_
              refine V_iload8 eX2_price_331 ?_
              refine V_iload5 eX2_price_333 ?_
              refine V_imul eX2_price_335 ?_
              refine V_iadd eX2_price_336 ?_
              refine M_ss (n := (192 + ha)) mb (zadd rfl rfl) (by omega) eX2_price_337 ?_
              obtain ⟨S_60, hS_60⟩ : ∃ T, T = va_up S_53 (192 + ha) ((S_53 (192 + ha)) + (n8 * (nI pa))) := ⟨_, rfl⟩
              rw [← hS_60]
              have hnf_61 : S_60 8 = (nI nf) := by rw [hS_60]; exact rdn (by omega) hnf_54
              have hfr_62 : ∀ j, (j < 192 ∨ 200 ≤ j ∧ j < 11514 ∨ 11638 ≤ j ∧ j < 11720 ∨ 11760 ≤ j) → S_60 j = S j := by rw [hS_60]; exact (fun j hj => by rw [va_up_ne _ _ (by omega)]; exact hfr_55 j hj)
              have xha_63 : S_60 (11680 + fa) = (nI ha) := by rw [hS_60]; exact rdn (by omega) xha_56
              have xhb_64 : S_60 (11680 + fb) = (nI hb) := by rw [hS_60]; exact rdn (by omega) xhb_57
              have xpa_65 : S_60 (11760 + fa) = (nI pa) := by rw [hS_60]; exact rdn (by omega) xpa_58
              have xpb_66 : S_60 (11760 + fb) = (nI pb) := by rw [hS_60]; exact rdn (by omega) xpb_59
              refine V_aload0 eX2_price_338 rfl ?_
              refine M_ga mb rfl eX2_price_339 fl_X2_8_2 ?_
              refine V_sipush (v := 11720) (by decide) eX2_price_342 ?_
              refine V_iload3 eX2_price_345 ?_
              refine V_iadd eX2_price_346 ?_
              refine V_dup2 rfl rfl eX2_price_347 ?_
              refine M_sl (n := (11720 + fa)) mb (zadd rfl hfa) (by omega) rfl eX2_price_348 ?_
              refine V_iload8 eX2_price_349 ?_
              refine V_isub eX2_price_351 ?_
              refine M_ss (n := (11720 + fa)) mb (zadd rfl hfa) (by omega) eX2_price_352 ?_
              obtain ⟨S_67, hS_67⟩ : ∃ T, T = va_up S_60 (11720 + fa) ((S_60 (11720 + fa)) - n8) := ⟨_, rfl⟩
              rw [← hS_67]
              have hnf_68 : S_67 8 = (nI nf) := by rw [hS_67]; exact rdn (by omega) hnf_61
              have hfr_69 : ∀ j, (j < 192 ∨ 200 ≤ j ∧ j < 11514 ∨ 11638 ≤ j ∧ j < 11720 ∨ 11760 ≤ j) → S_67 j = S j := by rw [hS_67]; exact (fun j hj => by rw [va_up_ne _ _ (by omega)]; exact hfr_62 j hj)
              have xha_70 : S_67 (11680 + fa) = (nI ha) := by rw [hS_67]; exact rdn (by omega) xha_63
              have xhb_71 : S_67 (11680 + fb) = (nI hb) := by rw [hS_67]; exact rdn (by omega) xhb_64
              have xpa_72 : S_67 (11760 + fa) = (nI pa) := by rw [hS_67]; exact rdn (by omega) xpa_65
              have xpb_73 : S_67 (11760 + fb) = (nI pb) := by rw [hS_67]; exact rdn (by omega) xpb_66
              refine V_aload0 eX2_price_353 rfl ?_
              refine M_ga mb rfl eX2_price_354 fl_X2_8_2 ?_
              refine V_sipush (v := 11720) (by decide) eX2_price_357 ?_
              refine V_iload4 eX2_price_360 ?_
              refine V_iadd eX2_price_362 ?_
              refine V_dup2 rfl rfl eX2_price_363 ?_
              refine M_sl (n := (11720 + fb)) mb (zadd rfl hfb) (by omega) rfl eX2_price_364 ?_
              refine V_iload8 eX2_price_365 ?_
              refine V_isub eX2_price_367 ?_
              refine M_ss (n := (11720 + fb)) mb (zadd rfl hfb) (by omega) eX2_price_368 ?_
              obtain ⟨S_74, hS_74⟩ : ∃ T, T = va_up S_67 (11720 + fb) ((S_67 (11720 + fb)) - n8) := ⟨_, rfl⟩
              rw [← hS_74]
              have hnf_75 : S_74 8 = (nI nf) := by rw [hS_74]; exact rdn (by omega) hnf_68
              have hfr_76 : ∀ j, (j < 192 ∨ 200 ≤ j ∧ j < 11514 ∨ 11638 ≤ j ∧ j < 11720 ∨ 11760 ≤ j) → S_74 j = S j := by rw [hS_74]; exact (fun j hj => by rw [va_up_ne _ _ (by omega)]; exact hfr_69 j hj)
              have xha_77 : S_74 (11680 + fa) = (nI ha) := by rw [hS_74]; exact rdn (by omega) xha_70
              have xhb_78 : S_74 (11680 + fb) = (nI hb) := by rw [hS_74]; exact rdn (by omega) xhb_71
              have xpa_79 : S_74 (11760 + fa) = (nI pa) := by rw [hS_74]; exact rdn (by omega) xpa_72
              have xpb_80 : S_74 (11760 + fb) = (nI pb) := by rw [hS_74]; exact rdn (by omega) xpb_73
              refine V_aload0 eX2_price_369 rfl ?_
              refine M_ga mb rfl eX2_price_370 fl_X2_8_2 ?_
              refine V_sipush (v := 11514) (by decide) eX2_price_373 ?_
              refine V_aload0 eX2_price_376 rfl ?_
              refine V_iload1 eX2_price_377 ?_
              refine M_call mb eX2_price_378 lmX2_indexOf q2289 q2291 rfl qs89 (c_indexOf mb (p := nI p) (pr_sp hfr_76 hsp)) rfl rfl rfl rfl ?_
              rw [show sI S_74 (nI p) = si from (pr_sI hfr_76).trans hsi.symm]
              refine V_iadd eX2_price_381 ?_
              refine V_iload5 eX2_price_382 ?_
              refine M_ss (n := (11514 + si)) mb (zadd rfl rfl) (by omega) eX2_price_384 ?_
              obtain ⟨S_81, hS_81⟩ : ∃ T, T = va_up S_74 (11514 + si) (nI pa) := ⟨_, rfl⟩
              rw [← hS_81]
              have hnf_82 : S_81 8 = (nI nf) := by rw [hS_81]; exact rdn (by omega) hnf_75
              have hfr_83 : ∀ j, (j < 192 ∨ 200 ≤ j ∧ j < 11514 ∨ 11638 ≤ j ∧ j < 11720 ∨ 11760 ≤ j) → S_81 j = S j := by rw [hS_81]; exact (fun j hj => by rw [va_up_ne _ _ (by omega)]; exact hfr_76 j hj)
              have xha_84 : S_81 (11680 + fa) = (nI ha) := by rw [hS_81]; exact rdn (by omega) xha_77
              have xhb_85 : S_81 (11680 + fb) = (nI hb) := by rw [hS_81]; exact rdn (by omega) xhb_78
              have xpa_86 : S_81 (11760 + fa) = (nI pa) := by rw [hS_81]; exact rdn (by omega) xpa_79
              have xpb_87 : S_81 (11760 + fb) = (nI pb) := by rw [hS_81]; exact rdn (by omega) xpb_80
              refine V_iload2 eX2_price_385 ?_
              refine V_iload8 eX2_price_386 ?_
              refine V_iadd eX2_price_388 ?_
              refine V_istore2 rfl eX2_price_389 rfl ?_
              refine V_aload0 eX2_price_390 rfl ?_
              refine V_iload1 eX2_price_391 ?_
              refine V_iconst (v := 0) (by decide) eX2_price_392 ?_
              refine M_call mb eX2_price_393 lmX2_bestOf q2309 q2311 rfl qs90 (c_bestOf mb (nI p) (0 : Int32) hnf_82 hnf40) rfl rfl rfl rfl ?_
              refine V_istore3 rfl eX2_price_396 rfl ?_
              refine V_aload0 eX2_price_397 rfl ?_
              refine V_iload1 eX2_price_398 ?_
              refine V_iconst (v := 1) (by decide) eX2_price_399 ?_
              refine M_call mb eX2_price_400 lmX2_bestOf q2309 q2311 rfl qs90 (c_bestOf mb (nI p) (1 : Int32) hnf_82 hnf40) rfl rfl rfl rfl ?_
              refine V_istore4 rfl eX2_price_403 rfl ?_
              refine V_goto eX2_price_405 ?_
              have hK27 : K_price_27 nf si p q27 = some ((q27.1 + n8), (o_bestOf S_81 nf (nI p) (0 : Int32)), (o_bestOf S_81 nf (nI p) (1 : Int32)), S_81) := by rw [hj203]; simp only [D_price_203, ← hS_39, ← hS_46, ← hS_53, ← hS_60, ← hS_67, ← hS_74, ← hS_81, hpc, hfac, hfbc, xhas, xhbs, xpas, xpbs, if_neg c205]
              obtain ⟨n27, rfl⟩ : ∃ k, n27 = k + 1 := ⟨n27 - 1, by have := (pr_K hof hnf40 hsi12 hI hK27).2; omega⟩
              exact V.le (zle_c (zle_c (zle_c (zle_c (zle_c (zle_n (zle_n (zle_n (zle_n zle_0))))))))) (ih27 n27 rfl ((q27.1 + n8), (o_bestOf S_81 nf (nI p) (0 : Int32)), (o_bestOf S_81 nf (nI p) (1 : Int32)), S_81) (hR27.trans (zwh_s hK27)) hnf_82 hfr_83 (pr_K hof hnf40 hsi12 hI hK27).1 (Nat.le_of_lt_succ (Nat.lt_of_lt_of_le (pr_K hof hnf40 hsi12 hI hK27).2 hM)))
            · refine V_aload0 eX2_price_208 rfl ?_
              refine M_ga mb rfl eX2_price_209 fl_X2_8_2 ?_
              refine V_sipush (v := 11720) (by decide) eX2_price_212 ?_
              refine V_iload6 eX2_price_215 ?_
              refine V_ifne eX2_price_217 (fun c217 => ?_) (fun c217 => ?_)
              · refine V_iload4 eX2_price_224 ?_
                refine V_iadd eX2_price_226 ?_
                refine V_iconst (v := 0) (by decide) eX2_price_227 ?_
                refine M_ss (n := (11720 + fb)) mb (zadd rfl hfb) (by omega) eX2_price_228 ?_
                obtain ⟨S_88, hS_88⟩ : ∃ T, T = va_up q27.2.2.2 (11720 + fb) (0 : Int32) := ⟨_, rfl⟩
                rw [← hS_88]
                have hnf_89 : S_88 8 = (nI nf) := by rw [hS_88]; exact rdn (by omega) hnf_1
                have hfr_90 : ∀ j, (j < 192 ∨ 200 ≤ j ∧ j < 11514 ∨ 11638 ≤ j ∧ j < 11720 ∨ 11760 ≤ j) → S_88 j = S j := by rw [hS_88]; exact (fun j hj => by rw [va_up_ne _ _ (by omega)]; exact hfr_2 j hj)
                have xha_91 : S_88 (11680 + fa) = (nI ha) := by rw [hS_88]; exact rdn (by omega) xha
                have xhb_92 : S_88 (11680 + fb) = (nI hb) := by rw [hS_88]; exact rdn (by omega) xhb
                have xpa_93 : S_88 (11760 + fa) = (nI pa) := by rw [hS_88]; exact rdn (by omega) xpa
                have xpb_94 : S_88 (11760 + fb) = (nI pb) := by rw [hS_88]; exact rdn (by omega) xpb
                refine V_goto eX2_price_229 ?_
                refine V_aload0 eX2_price_390 rfl ?_
                refine V_iload1 eX2_price_391 ?_
                refine V_iconst (v := 0) (by decide) eX2_price_392 ?_
                refine M_call mb eX2_price_393 lmX2_bestOf q2309 q2311 rfl qs90 (c_bestOf mb (nI p) (0 : Int32) hnf_89 hnf40) rfl rfl rfl rfl ?_
                refine V_istore3 rfl eX2_price_396 rfl ?_
                refine V_aload0 eX2_price_397 rfl ?_
                refine V_iload1 eX2_price_398 ?_
                refine V_iconst (v := 1) (by decide) eX2_price_399 ?_
                refine M_call mb eX2_price_400 lmX2_bestOf q2309 q2311 rfl qs90 (c_bestOf mb (nI p) (1 : Int32) hnf_89 hnf40) rfl rfl rfl rfl ?_
                refine V_istore4 rfl eX2_price_403 rfl ?_
                refine V_goto eX2_price_405 ?_
                have hK27 : K_price_27 nf si p q27 = some (q27.1, (o_bestOf S_88 nf (nI p) (0 : Int32)), (o_bestOf S_88 nf (nI p) (1 : Int32)), S_88) := by rw [hj203]; simp only [D_price_203, ← hS_88, hpc, hfac, hfbc, xhas, xhbs, xpas, xpbs, if_pos c205, if_neg c217]
                obtain ⟨n27, rfl⟩ : ∃ k, n27 = k + 1 := ⟨n27 - 1, by have := (pr_K hof hnf40 hsi12 hI hK27).2; omega⟩
                exact V.le (zle_c (zle_c (zle_c (zle_c (zle_c (zle_n (zle_n (zle_n (zle_n zle_0))))))))) (ih27 n27 rfl (q27.1, (o_bestOf S_88 nf (nI p) (0 : Int32)), (o_bestOf S_88 nf (nI p) (1 : Int32)), S_88) (hR27.trans (zwh_s hK27)) hnf_89 hfr_90 (pr_K hof hnf40 hsi12 hI hK27).1 (Nat.le_of_lt_succ (Nat.lt_of_lt_of_le (pr_K hof hnf40 hsi12 hI hK27).2 hM)))
              · refine V_iload3 eX2_price_220 ?_
                refine V_goto eX2_price_221 ?_
                refine V_iadd eX2_price_226 ?_
                refine V_iconst (v := 0) (by decide) eX2_price_227 ?_
                refine M_ss (n := (11720 + fa)) mb (zadd rfl hfa) (by omega) eX2_price_228 ?_
                obtain ⟨S_95, hS_95⟩ : ∃ T, T = va_up q27.2.2.2 (11720 + fa) (0 : Int32) := ⟨_, rfl⟩
                rw [← hS_95]
                have hnf_96 : S_95 8 = (nI nf) := by rw [hS_95]; exact rdn (by omega) hnf_1
                have hfr_97 : ∀ j, (j < 192 ∨ 200 ≤ j ∧ j < 11514 ∨ 11638 ≤ j ∧ j < 11720 ∨ 11760 ≤ j) → S_95 j = S j := by rw [hS_95]; exact (fun j hj => by rw [va_up_ne _ _ (by omega)]; exact hfr_2 j hj)
                have xha_98 : S_95 (11680 + fa) = (nI ha) := by rw [hS_95]; exact rdn (by omega) xha
                have xhb_99 : S_95 (11680 + fb) = (nI hb) := by rw [hS_95]; exact rdn (by omega) xhb
                have xpa_100 : S_95 (11760 + fa) = (nI pa) := by rw [hS_95]; exact rdn (by omega) xpa
                have xpb_101 : S_95 (11760 + fb) = (nI pb) := by rw [hS_95]; exact rdn (by omega) xpb
                refine V_goto eX2_price_229 ?_
                refine V_aload0 eX2_price_390 rfl ?_
                refine V_iload1 eX2_price_391 ?_
                refine V_iconst (v := 0) (by decide) eX2_price_392 ?_
                refine M_call mb eX2_price_393 lmX2_bestOf q2309 q2311 rfl qs90 (c_bestOf mb (nI p) (0 : Int32) hnf_96 hnf40) rfl rfl rfl rfl ?_
                refine V_istore3 rfl eX2_price_396 rfl ?_
                refine V_aload0 eX2_price_397 rfl ?_
                refine V_iload1 eX2_price_398 ?_
                refine V_iconst (v := 1) (by decide) eX2_price_399 ?_
                refine M_call mb eX2_price_400 lmX2_bestOf q2309 q2311 rfl qs90 (c_bestOf mb (nI p) (1 : Int32) hnf_96 hnf40) rfl rfl rfl rfl ?_
                refine V_istore4 rfl eX2_price_403 rfl ?_
                refine V_goto eX2_price_405 ?_
                have hK27 : K_price_27 nf si p q27 = some (q27.1, (o_bestOf S_95 nf (nI p) (0 : Int32)), (o_bestOf S_95 nf (nI p) (1 : Int32)), S_95) := by rw [hj203]; simp only [D_price_203, ← hS_95, hpc, hfac, hfbc, xhas, xhbs, xpas, xpbs, if_pos c205, if_pos c217]
                obtain ⟨n27, rfl⟩ : ∃ k, n27 = k + 1 := ⟨n27 - 1, by have := (pr_K hof hnf40 hsi12 hI hK27).2; omega⟩
                exact V.le (zle_c (zle_c (zle_c (zle_c (zle_c (zle_n (zle_n (zle_n (zle_n zle_0))))))))) (ih27 n27 rfl (q27.1, (o_bestOf S_95 nf (nI p) (0 : Int32)), (o_bestOf S_95 nf (nI p) (1 : Int32)), S_95) (hR27.trans (zwh_s hK27)) hnf_96 hfr_97 (pr_K hof hnf40 hsi12 hI hK27).1 (Nat.le_of_lt_succ (Nat.lt_of_lt_of_le (pr_K hof hnf40 hsi12 hI hK27).2 hM)))
          refine V_aload0 eX2_price_121 rfl ?_
          refine M_ga mb rfl eX2_price_122 fl_X2_8_2 ?_
          refine V_sipush (v := 11720) (by decide) eX2_price_125 ?_
          refine V_iload3 eX2_price_128 ?_
          refine V_iadd eX2_price_129 ?_
          refine M_sl (n := (11720 + fa)) mb (zadd rfl hfa) (by omega) rfl eX2_price_130 ?_
          refine V_aload0 eX2_price_131 rfl ?_
          refine M_ga mb rfl eX2_price_132 fl_X2_8_2 ?_
          refine V_sipush (v := 11720) (by decide) eX2_price_135 ?_
          refine V_iload4 eX2_price_138 ?_
          refine V_iadd eX2_price_140 ?_
          refine M_sl (n := (11720 + fb)) mb (zadd rfl hfb) (by omega) rfl eX2_price_141 ?_
          refine V_if_icmpge eX2_price_142 (fun c142 => ?_) (fun c142 => ?_)
          · refine V_aload0 eX2_price_158 rfl ?_
            refine M_ga mb rfl eX2_price_159 fl_X2_8_2 ?_
            refine V_sipush (v := 11720) (by decide) eX2_price_162 ?_
            refine V_iload4 eX2_price_165 ?_
            refine V_iadd eX2_price_167 ?_
            refine M_sl (n := (11720 + fb)) mb (zadd rfl hfb) (by omega) rfl eX2_price_168 ?_
            refine V_istore8 rfl eX2_price_169 rfl ?_
            refine V_iload6 eX2_price_171 ?_
            refine V_iload8 eX2_price_173 ?_
            refine V_if_icmpge eX2_price_175 (fun c175 => ?_) (fun c175 => ?_)
            · refine V_iload8 eX2_price_183 ?_
              refine V_istore8 rfl eX2_price_185 rfl ?_
              refine V_iload7 eX2_price_187 ?_
              refine V_iload8 eX2_price_189 ?_
              refine V_if_icmpge eX2_price_191 (fun c191 => ?_) (fun c191 => ?_)
              · refine V_iload8 eX2_price_199 ?_
                refine V_istore8 rfl eX2_price_201 rfl ?_
                exact V.le (zle_c (zle_c (zle_c (zle_c (zle_c (zle_c (zle_c (zle_n (zle_c zle_0))))))))) (J203 (q27.2.2.2 (11720 + fb)) (by simp only [K_price_27, hpc, hfac, hfbc, xhas, xhbs, xpas, xpbs, if_neg c29, if_neg c35, if_neg c59, if_pos c142, if_pos c175, if_pos c191])  )
              · refine V_iload7 eX2_price_194 ?_
                refine V_goto eX2_price_196 ?_
                refine V_istore8 rfl eX2_price_201 rfl ?_
                exact V.le (zle_c (zle_c (zle_c (zle_c (zle_c (zle_c (zle_c (zle_n (zle_c zle_0))))))))) (J203 ((q27.2.2.2 (192 + hb)) / (nI pa)) (by simp only [K_price_27, hpc, hfac, hfbc, xhas, xhbs, xpas, xpbs, if_neg c29, if_neg c35, if_neg c59, if_pos c142, if_pos c175, if_neg c191])  )
            · refine V_iload6 eX2_price_178 ?_
              refine V_goto eX2_price_180 ?_
              refine V_istore8 rfl eX2_price_185 rfl ?_
              refine V_iload7 eX2_price_187 ?_
              refine V_iload8 eX2_price_189 ?_
              refine V_if_icmpge eX2_price_191 (fun c191 => ?_) (fun c191 => ?_)
              · refine V_iload8 eX2_price_199 ?_
                refine V_istore8 rfl eX2_price_201 rfl ?_
                exact V.le (zle_c (zle_c (zle_c (zle_c (zle_c (zle_c (zle_c (zle_n (zle_c zle_0))))))))) (J203 (q27.2.2.2 (11530 + 9 * si + ha)) (by simp only [K_price_27, hpc, hfac, hfbc, xhas, xhbs, xpas, xpbs, if_neg c29, if_neg c35, if_neg c59, if_pos c142, if_neg c175, if_pos c191])  )
              · refine V_iload7 eX2_price_194 ?_
                refine V_goto eX2_price_196 ?_
                refine V_istore8 rfl eX2_price_201 rfl ?_
                exact V.le (zle_c (zle_c (zle_c (zle_c (zle_c (zle_c (zle_c (zle_n (zle_c zle_0))))))))) (J203 ((q27.2.2.2 (192 + hb)) / (nI pa)) (by simp only [K_price_27, hpc, hfac, hfbc, xhas, xhbs, xpas, xpbs, if_neg c29, if_neg c35, if_neg c59, if_pos c142, if_neg c175, if_neg c191])  )
          · refine V_aload0 eX2_price_145 rfl ?_
            refine M_ga mb rfl eX2_price_146 fl_X2_8_2 ?_
            refine V_sipush (v := 11720) (by decide) eX2_price_149 ?_
            refine V_iload3 eX2_price_152 ?_
            refine V_iadd eX2_price_153 ?_
            refine M_sl (n := (11720 + fa)) mb (zadd rfl hfa) (by omega) rfl eX2_price_154 ?_
            refine V_goto eX2_price_155 ?_
            refine V_istore8 rfl eX2_price_169 rfl ?_
            refine V_iload6 eX2_price_171 ?_
            refine V_iload8 eX2_price_173 ?_
            refine V_if_icmpge eX2_price_175 (fun c175 => ?_) (fun c175 => ?_)
            · refine V_iload8 eX2_price_183 ?_
              refine V_istore8 rfl eX2_price_185 rfl ?_
              refine V_iload7 eX2_price_187 ?_
              refine V_iload8 eX2_price_189 ?_
              refine V_if_icmpge eX2_price_191 (fun c191 => ?_) (fun c191 => ?_)
              · refine V_iload8 eX2_price_199 ?_
                refine V_istore8 rfl eX2_price_201 rfl ?_
                exact V.le (zle_c (zle_c (zle_c (zle_c (zle_c (zle_c (zle_c (zle_n (zle_c zle_0))))))))) (J203 (q27.2.2.2 (11720 + fa)) (by simp only [K_price_27, hpc, hfac, hfbc, xhas, xhbs, xpas, xpbs, if_neg c29, if_neg c35, if_neg c59, if_neg c142, if_pos c175, if_pos c191])  )
              · refine V_iload7 eX2_price_194 ?_
                refine V_goto eX2_price_196 ?_
                refine V_istore8 rfl eX2_price_201 rfl ?_
                exact V.le (zle_c (zle_c (zle_c (zle_c (zle_c (zle_c (zle_c (zle_n (zle_c zle_0))))))))) (J203 ((q27.2.2.2 (192 + hb)) / (nI pa)) (by simp only [K_price_27, hpc, hfac, hfbc, xhas, xhbs, xpas, xpbs, if_neg c29, if_neg c35, if_neg c59, if_neg c142, if_pos c175, if_neg c191])  )
            · refine V_iload6 eX2_price_178 ?_
              refine V_goto eX2_price_180 ?_
              refine V_istore8 rfl eX2_price_185 rfl ?_
              refine V_iload7 eX2_price_187 ?_
              refine V_iload8 eX2_price_189 ?_
              refine V_if_icmpge eX2_price_191 (fun c191 => ?_) (fun c191 => ?_)
              · refine V_iload8 eX2_price_199 ?_
                refine V_istore8 rfl eX2_price_201 rfl ?_
                exact V.le (zle_c (zle_c (zle_c (zle_c (zle_c (zle_c (zle_c (zle_n (zle_c zle_0))))))))) (J203 (q27.2.2.2 (11530 + 9 * si + ha)) (by simp only [K_price_27, hpc, hfac, hfbc, xhas, xhbs, xpas, xpbs, if_neg c29, if_neg c35, if_neg c59, if_neg c142, if_neg c175, if_pos c191])  )
              · refine V_iload7 eX2_price_194 ?_
                refine V_goto eX2_price_196 ?_
                refine V_istore8 rfl eX2_price_201 rfl ?_
                exact V.le (zle_c (zle_c (zle_c (zle_c (zle_c (zle_c (zle_c (zle_n (zle_c zle_0))))))))) (J203 ((q27.2.2.2 (192 + hb)) / (nI pa)) (by simp only [K_price_27, hpc, hfac, hfbc, xhas, xhbs, xpas, xpbs, if_neg c29, if_neg c35, if_neg c59, if_neg c142, if_neg c175, if_neg c191])  )
  · refine V_iconst (v := -1) (by decide) eX2_price_8 ?_
    have hE : ((-1 : Int32), S) = o_price S nf sc := by simp only [o_price, if_pos c5]
    exact V_ireturn eX2_price_9 rfl (by rw [← hE]; exact ⟨rfl, rfl⟩)

