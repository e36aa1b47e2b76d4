/-! deterministic ends; calls with them -/
def Rv (v : Value) (h : Hp) : Outcome → Hp → Prop := fun o h' => o = .returned (some v) ∧ h' = h
def Ru (h : Hp) : Outcome → Hp → Prop := fun o h' => o = .returned none ∧ h' = h
theorem hRet_v (v : Value) (h : Hp) : hRet (Rv v h) := fun o h' q => ⟨_, q.1⟩
theorem hRet_u (h : Hp) : hRet (Ru h) := fun o h' q => ⟨_, q.1⟩
theorem Rv.i {x y : Int32} {h h' : Hp} (e : x = y) (e2 : h' = h := by rfl) : Rv (.int y) h (.returned (some (.int x))) h' := ⟨by rw [e], e2⟩
theorem Rv.l {x y : Int64} {h h' : Hp} (e : x = y) (e2 : h' = h := by rfl) : Rv (.long y) h (.returned (some (.long x))) h' := ⟨by rw [e], e2⟩
theorem Ru.h {h h' : Hp} (e2 : h' = h := by rfl) : Ru h (.returned none) h' := ⟨rfl, e2⟩
theorem kRv {x : Value} {h0 : Hp} {P : Option Value → Hp → Prop} (k : P (some x) h0) : ∀ v h', Rv x h0 (.returned v) h' → P v h' := by
  rintro v h' ⟨e, rfl⟩
  cases e
  exact k
theorem kRu {h0 : Hp} {P : Option Value → Hp → Prop} (k : P none h0) : ∀ v h', Ru h0 (.returned v) h' → P v h' := by
  rintro v h' ⟨e, rfl⟩
  cases e
  exact k
section CR
variable {w : Wd} {mi mi' : Mi} {cc cc' : ByteArray} {L L' cb sb cb' sb' n : Nat} {h h1 : Hp} {pc pc' idx k a : Nat} {ls : List (Option Value)} {st st0 : List Value} {Q : Outcome → Hp → Prop} {as : List Value} {x : Value}
theorem C_static (d : Dc cc pc (.invokestatic idx) 3 pc') (lm : LM mi' cc' n) (l1 : Cond.methodLink mi.1.cls idx mi'.1 ∈ lw_all) (l2 : Cond.static mi'.1 ∈ lw_all) (con : Con w mi' cc' L' cb' sb' as h (Rv x h1)) (hL : Nat.blt L' L = true) (hn : as.length = n) (hst : st0 = as.reverse ++ st) (hw : Nat.ble (st.map fun v => v.category).sum 8 = true) (kk : V w mi cc L cb sb h1 pc' ls (x :: st) Q) : V w mi cc L (cb + cb') (sb + sb') h pc ls st0 Q :=
  V_invokestatic d lm l1 l2 con (hRet_v _ _) hL hn hst hw (kRv (P := fun v h' => V w mi cc L cb sb h' pc' ls (v.toList ++ st) Q) kk)
theorem C_virtual (d : Dc cc pc (.invokevirtual idx) 3 pc') (lm : LM mi' cc' n) (l1 : Cond.methodLink mi.1.cls idx mi'.1 ∈ lw_all) (l2 : Cond.instanceMethod mi'.1 ∈ lw_all) (ok : zok k = true) (lc : mi'.1.cls = (zcl k).1) (l3 : Cond.selects (zcl k).1 mi'.1 mi'.1 ∈ lw_all) (ha : a < hZ h) (hk : zkd (hT h a) = k) (con : Con w mi' cc' L' cb' sb' (.ref a :: as) h (Rv x h1)) (hL : Nat.blt L' L = true) (hn : as.length = n) (hst : st0 = as.reverse ++ .ref a :: st) (hw : Nat.ble (st.map fun v => v.category).sum 8 = true) (kk : V w mi cc L cb sb h1 pc' ls (x :: st) Q) : V w mi cc L (cb + cb') (sb + sb') h pc ls st0 Q :=
  V_invokevirtual d lm l1 l2 ok lc l3 ha hk con (hRet_v _ _) hL hn hst hw (kRv (P := fun v h' => V w mi cc L cb sb h' pc' ls (v.toList ++ st) Q) kk)
theorem C_virtualU (d : Dc cc pc (.invokevirtual idx) 3 pc') (lm : LM mi' cc' n) (l1 : Cond.methodLink mi.1.cls idx mi'.1 ∈ lw_all) (l2 : Cond.instanceMethod mi'.1 ∈ lw_all) (ok : zok k = true) (lc : mi'.1.cls = (zcl k).1) (l3 : Cond.selects (zcl k).1 mi'.1 mi'.1 ∈ lw_all) (ha : a < hZ h) (hk : zkd (hT h a) = k) (con : Con w mi' cc' L' cb' sb' (.ref a :: as) h (Ru h1)) (hL : Nat.blt L' L = true) (hn : as.length = n) (hst : st0 = as.reverse ++ .ref a :: st) (hw : Nat.ble (st.map fun v => v.category).sum 8 = true) (kk : V w mi cc L cb sb h1 pc' ls st Q) : V w mi cc L (cb + cb') (sb + sb') h pc ls st0 Q :=
  V_invokevirtual d lm l1 l2 ok lc l3 ha hk con (hRet_u _) hL hn hst hw (kRu (P := fun v h' => V w mi cc L cb sb h' pc' ls (v.toList ++ st) Q) kk)
end CR
/-! the model: its object and arrays, by their tags -/
def mint : Nat → Bool := fun j => match j with | 1 => true | 2 => true | 8 => true | 9 => true | 10 => true | 11 => true | 12 => true | 19 => true | 20 => true | _ => false
def mlong : Nat → Bool := fun j => match j with | 14 => true | 15 => true | 16 => true | 17 => true | 18 => true | _ => false
def mlen : Nat → Nat := fun j => match j with | 1 => 83840 | 2 => 83840 | 8 => 6 | 9 => 80 | 10 => 80 | 11 => 7 | 12 => 7 | 14 => 400 | 15 => 400 | 16 => 400 | 17 => 20 | 18 => 20 | 19 => 60 | 20 => 40 | _ => 0
theorem mint_lt {j : Nat} (h : mint j = true) : 0 < j ∧ j < 21 := by
  unfold mint at h
  split at h <;> first | omega | (exact absurd h (by decide))
theorem mlong_lt {j : Nat} (h : mlong j = true) : 13 < j ∧ j < 19 := by
  unfold mlong at h
  split at h <;> first | omega | (exact absurd h (by decide))
theorem mlen_lt (j : Nat) : mlen j < 2 ^ 31 := by
  unfold mlen
  split <;> omega
def MB (h : Hp) (m : Nat) (ad : Nat → Nat) : Prop :=
  (hT h m = 2 ∧ m < hZ h ∧ ∀ b, hT h b = 2 → b = m) ∧
  (∀ j, mint j = true → hR h m j = some (ad j) ∧ hT h (ad j) = 120 + j ∧ ad j < hZ h ∧ hN h (ad j) = mlen j ∧ ∀ b, hT h b = 120 + j → b = ad j) ∧
  (∀ j, mlong j = true → hR h m j = some (ad j) ∧ hT h (ad j) = 170 + j ∧ ad j < hZ h ∧ hN h (ad j) = mlen j ∧ ∀ b, hT h b = 170 + j → b = ad j)
/-- the heap h with the model's cells holding these -/
def ms (h : Hp) (A : Nat → Nat → Int32) (B : Nat → Nat → Int64) (F : Nat → Int32) (S : Nat → Int32) : Hp :=
  (hT h, hN h, fun a => if hT h a = 2 then F else if hT h a = 121 then S else if 121 < hT h a ∧ hT h a < 141 then A (hT h a - 120) else hI h a, fun a => if 183 < hT h a ∧ hT h a < 189 then B (hT h a - 170) else hL h a, hR h, hZ h)
section MS
variable {h : Hp} {m : Nat} {ad : Nat → Nat} {A : Nat → Nat → Int32} {B : Nat → Nat → Int64} {F S : Nat → Int32}
theorem ms_F (mb : MB h m ad) : hI (ms h A B F S) m = F := by
  show (if hT h m = 2 then F else _) = F
  rw [if_pos mb.1.1]
theorem ms_S (mb : MB h m ad) : hI (ms h A B F S) (ad 1) = S := by
  show (if hT h (ad 1) = 2 then F else if hT h (ad 1) = 121 then S else _) = S
  rw [(mb.2.1 1 rfl).2.1]
  rfl
theorem ms_A (mb : MB h m ad) {j : Nat} (hj : mint j = true) (h1 : j ≠ 1) : hI (ms h A B F S) (ad j) = A j := by
  have hl := mint_lt hj
  show (if hT h (ad j) = 2 then F else if hT h (ad j) = 121 then S else if 121 < hT h (ad j) ∧ hT h (ad j) < 141 then A (hT h (ad j) - 120) else _) = A j
  rw [(mb.2.1 j hj).2.1, if_neg (by omega), if_neg (by omega), if_pos (by omega), Nat.add_sub_cancel_left]
theorem ms_B (mb : MB h m ad) {j : Nat} (hj : mlong j = true) : hL (ms h A B F S) (ad j) = B j := by
  have hl := mlong_lt hj
  show (if 183 < hT h (ad j) ∧ hT h (ad j) < 189 then B (hT h (ad j) - 170) else _) = B j
  rw [(mb.2.2 j hj).2.1, if_pos (by omega), Nat.add_sub_cancel_left]
theorem hp_ext {h h' : Hp} (e1 : hT h = hT h') (e2 : hN h = hN h') (e3 : hI h = hI h') (e4 : hL h = hL h') (e5 : hR h = hR h') (e6 : hZ h = hZ h') : h = h' := Prod.ext e1 (Prod.ext e2 (Prod.ext e3 (Prod.ext e4 (Prod.ext e5 e6))))
theorem ms_I (a : Nat) : hI (ms h A B F S) a = if hT h a = 2 then F else if hT h a = 121 then S else if 121 < hT h a ∧ hT h a < 141 then A (hT h a - 120) else hI h a := rfl
theorem ms_L (a : Nat) : hL (ms h A B F S) a = if 183 < hT h a ∧ hT h a < 189 then B (hT h a - 170) else hL h a := rfl
theorem ms_wF (mb : MB h m ad) (f : Nat → Int32) : wI (ms h A B F S) m f = ms h A B f S := by
  refine hp_ext rfl rfl (funext fun a => ?_) rfl rfl rfl
  rw [hI_wI]
  unfold va_up
  by_cases e : a = m
  · subst e
    rw [if_pos rfl, ms_F mb]
  · rw [if_neg e, ms_I, ms_I]
    have : ¬ hT h a = 2 := fun q => e (mb.1.2.2 a q)
    rw [if_neg this, if_neg this]
theorem ms_wS (mb : MB h m ad) (f : Nat → Int32) : wI (ms h A B F S) (ad 1) f = ms h A B F f := by
  refine hp_ext rfl rfl (funext fun a => ?_) rfl rfl rfl
  rw [hI_wI]
  unfold va_up
  by_cases e : a = ad 1
  · subst e
    rw [if_pos rfl, ms_S mb]
  · rw [if_neg e, ms_I, ms_I]
    have : ¬ hT h a = 121 := fun q => e ((mb.2.1 1 rfl).2.2.2.2 a q)
    rw [if_neg this, if_neg this]
theorem ms_wA (mb : MB h m ad) {j : Nat} (hj : mint j = true) (h1 : j ≠ 1) (f : Nat → Int32) : wI (ms h A B F S) (ad j) f = ms h (va_up A j f) B F S := by
  have hl := mint_lt hj
  refine hp_ext rfl rfl (funext fun a => ?_) rfl rfl rfl
  rw [hI_wI]
  by_cases e : a = ad j
  · subst e
    rw [va_up_self, ms_A mb hj h1, va_up_self]
  · rw [va_up_ne _ _ e, ms_I, ms_I]
    have : ¬ hT h a = 120 + j := fun q => e ((mb.2.1 j hj).2.2.2.2 a q)
    by_cases q : 121 < hT h a ∧ hT h a < 141
    · rw [if_pos q, if_pos q, va_up_ne _ _ (show hT h a - 120 ≠ j by omega)]
    · rw [if_neg q, if_neg q]
theorem ms_wB (mb : MB h m ad) {j : Nat} (hj : mlong j = true) (f : Nat → Int64) : wL (ms h A B F S) (ad j) f = ms h A (va_up B j f) F S := by
  have hl := mlong_lt hj
  refine hp_ext rfl rfl rfl (funext fun a => ?_) rfl rfl
  rw [hL_wL]
  by_cases e : a = ad j
  · subst e
    rw [va_up_self, ms_B mb hj, va_up_self]
  · rw [va_up_ne _ _ e, ms_L, ms_L]
    have : ¬ hT h a = 170 + j := fun q => e ((mb.2.2 j hj).2.2.2.2 a q)
    by_cases q : 183 < hT h a ∧ hT h a < 189
    · rw [if_pos q, if_pos q, va_up_ne _ _ (show hT h a - 170 ≠ j by omega)]
    · rw [if_neg q, if_neg q]
variable {w : Wd} {mi : Mi} {cc : ByteArray} {L cb sb : Nat} {pc pc' idx n : Nat} {ls : List (Option Value)} {st : List Value} {Q : Outcome → Hp → Prop} {i : Int32}
theorem zin_nI {n N : Nat} {i : Int32} (hi : i = nI n) (hn : n < N) (hN : N < 2 ^ 31) : vp_in i N ∧ i.toNatClampNeg = n := by
  subst hi
  exact ⟨vp_in_nI hn hN, nI_clamp (by omega)⟩
/-- the model's array of field j -/
theorem M_ga {j : Nat} (mb : MB h m ad) (hj : mint j = true) (d : Dc cc pc (.getfield idx) 3 pc') (fl : FL mi.1.cls idx 2 j) (k : V w mi cc L cb sb (ms h A B F S) pc' ls (.ref (ad j) :: st) Q) : V w mi cc L cb sb (ms h A B F S) pc ls (.ref m :: st) Q := by
  refine V_getF d fl (h := ms h A B F S) (by show zkd (hT h m) = 2; rw [mb.1.1]; rfl) mb.1.2.1 (v := .ref (ad j)) ?_ k
  show zfv (zty 2 j) _ _ (hR h m j) = _
  rw [(mb.2.1 j hj).1]
  unfold mint at hj
  split at hj <;> first | rfl | (exact absurd hj (by decide))
theorem M_gb {j : Nat} (mb : MB h m ad) (hj : mlong j = true) (d : Dc cc pc (.getfield idx) 3 pc') (fl : FL mi.1.cls idx 2 j) (k : V w mi cc L cb sb (ms h A B F S) pc' ls (.ref (ad j) :: st) Q) : V w mi cc L cb sb (ms h A B F S) pc ls (.ref m :: st) Q := by
  refine V_getF d fl (h := ms h A B F S) (by show zkd (hT h m) = 2; rw [mb.1.1]; rfl) mb.1.2.1 (v := .ref (ad j)) ?_ k
  show zfv (zty 2 j) _ _ (hR h m j) = _
  rw [(mb.2.2 j hj).1]
  unfold mlong at hj
  split at hj <;> first | rfl | (exact absurd hj (by decide))
/-- a field that holds an int or boolean -/
theorem M_gi {j : Nat} {v : Int32} (mb : MB h m ad) (hty : zty 2 j = .int ∨ zty 2 j = .boolean) (hv : F j = v) (d : Dc cc pc (.getfield idx) 3 pc') (fl : FL mi.1.cls idx 2 j) (k : V w mi cc L cb sb (ms h A B F S) pc' ls (.int v :: st) Q) : V w mi cc L cb sb (ms h A B F S) pc ls (.ref m :: st) Q := by
  refine V_getF d fl (h := ms h A B F S) (by show zkd (hT h m) = 2; rw [mb.1.1]; rfl) mb.1.2.1 (v := .int v) ?_ k
  rw [ms_F mb, hv]
  rcases hty with e | e <;> rw [e] <;> rfl
theorem M_pi {j : Nat} {x : Int32} (mb : MB h m ad) (hfin : Fin mi idx 2 j) (hty : zty 2 j = .int) (d : Dc cc pc (.putfield idx) 3 pc') (fl : FL mi.1.cls idx 2 j) (k : V w mi cc L cb sb (ms h A B (va_up F j x) S) pc' ls st Q) : V w mi cc L cb sb (ms h A B F S) pc ls (.int x :: .ref m :: st) Q := by
  refine V_putI d fl (h := ms h A B F S) (by show zkd (hT h m) = 2; rw [mb.1.1]; rfl) mb.1.2.1 hfin hty ?_
  rw [ms_wF mb, ms_F mb]
  exact k
theorem M_pz {j : Nat} {x : Int32} (mb : MB h m ad) (hfin : Fin mi idx 2 j) (hty : zty 2 j = .boolean) (hx : x = 0 ∨ x = 1) (d : Dc cc pc (.putfield idx) 3 pc') (fl : FL mi.1.cls idx 2 j) (k : V w mi cc L cb sb (ms h A B (va_up F j x) S) pc' ls st Q) : V w mi cc L cb sb (ms h A B F S) pc ls (.int x :: .ref m :: st) Q := by
  refine V_putZ d fl (h := ms h A B F S) (by show zkd (hT h m) = 2; rw [mb.1.1]; rfl) mb.1.2.1 hfin hty hx ?_
  rw [ms_wF mb, ms_F mb]
  exact k
theorem M_sl {v : Int32} (mb : MB h m ad) (hi : i = nI n) (hn : n < 83840) (hv : S n = v) (d : Dc cc pc .iaload 1 pc') (k : V w mi cc L cb sb (ms h A B F S) pc' ls (.int v :: st) Q) : V w mi cc L cb sb (ms h A B F S) pc ls (.int i :: .ref (ad 1) :: st) Q := by
  obtain ⟨h1, h2⟩ := zin_nI hi hn (by omega)
  have hb := mb.2.1 1 rfl
  refine V_iaload (κ := 121) (n := n) d hb.2.2.1 (by show zkd (hT h (ad 1)) = 121; rw [hb.2.1]; rfl) rfl (by show vp_in i (hN h (ad 1)); rw [hb.2.2.2.1]; exact h1) h2 ?_
  rw [ms_S mb, hv]
  exact k
theorem M_ss {x : Int32} (mb : MB h m ad) (hi : i = nI n) (hn : n < 83840) (d : Dc cc pc .iastore 1 pc') (k : V w mi cc L cb sb (ms h A B F (va_up S n x)) pc' ls st Q) : V w mi cc L cb sb (ms h A B F S) pc ls (.int x :: .int i :: .ref (ad 1) :: st) Q := by
  obtain ⟨h1, h2⟩ := zin_nI hi hn (by omega)
  have hb := mb.2.1 1 rfl
  refine V_iastore (κ := 121) (n := n) d hb.2.2.1 (by show zkd (hT h (ad 1)) = 121; rw [hb.2.1]; rfl) rfl rfl (by show vp_in i (hN h (ad 1)); rw [hb.2.2.2.1]; exact h1) h2 ?_
  rw [ms_S mb, ms_wS mb]
  exact k
theorem mint_kd {j : Nat} (hj : mint j = true) : zkd (120 + j) = 120 + j ∧ zak (120 + j) = some 0 ∧ Nat.blt (120 + j) 650 = true := by
  unfold mint at hj
  split at hj <;> first | exact ⟨rfl, rfl, rfl⟩ | (exact absurd hj (by decide))
theorem mlong_kd {j : Nat} (hj : mlong j = true) : zkd (170 + j) = 170 + j ∧ zak (170 + j) = some 1 ∧ Nat.blt (170 + j) 650 = true := by
  unfold mlong at hj
  split at hj <;> first | exact ⟨rfl, rfl, rfl⟩ | (exact absurd hj (by decide))
theorem M_al {j : Nat} {v : Int32} (mb : MB h m ad) (hj : mint j = true) (h1 : j ≠ 1) (hi : i = nI n) (hn : n < mlen j) (hv : A j n = v) (d : Dc cc pc .iaload 1 pc') (k : V w mi cc L cb sb (ms h A B F S) pc' ls (.int v :: st) Q) : V w mi cc L cb sb (ms h A B F S) pc ls (.int i :: .ref (ad j) :: st) Q := by
  obtain ⟨h1', h2⟩ := zin_nI hi hn (mlen_lt j)
  have hb := mb.2.1 j hj
  obtain ⟨k1, k2, k3⟩ := mint_kd hj
  refine V_iaload (κ := 120 + j) (n := n) d hb.2.2.1 (by show zkd (hT h (ad j)) = 120 + j; rw [hb.2.1]; exact k1) k2 (by show vp_in i (hN h (ad j)); rw [hb.2.2.2.1]; exact h1') h2 ?_
  rw [ms_A mb hj h1, hv]
  exact k
theorem M_as {j : Nat} {x : Int32} (mb : MB h m ad) (hj : mint j = true) (h1 : j ≠ 1) (hi : i = nI n) (hn : n < mlen j) (d : Dc cc pc .iastore 1 pc') (k : V w mi cc L cb sb (ms h (va_up A j (va_up (A j) n x)) B F S) pc' ls st Q) : V w mi cc L cb sb (ms h A B F S) pc ls (.int x :: .int i :: .ref (ad j) :: st) Q := by
  obtain ⟨h1', h2⟩ := zin_nI hi hn (mlen_lt j)
  have hb := mb.2.1 j hj
  obtain ⟨k1, k2, k3⟩ := mint_kd hj
  refine V_iastore (κ := 120 + j) (n := n) d hb.2.2.1 (by show zkd (hT h (ad j)) = 120 + j; rw [hb.2.1]; exact k1) k2 k3 (by show vp_in i (hN h (ad j)); rw [hb.2.2.2.1]; exact h1') h2 ?_
  rw [ms_A mb hj h1, ms_wA mb hj h1]
  exact k
theorem M_bl {j : Nat} {v : Int64} (mb : MB h m ad) (hj : mlong j = true) (hi : i = nI n) (hn : n < mlen j) (hv : B j n = v) (d : Dc cc pc .laload 1 pc') (k : V w mi cc L cb sb (ms h A B F S) pc' ls (.long v :: st) Q) : V w mi cc L cb sb (ms h A B F S) pc ls (.int i :: .ref (ad j) :: st) Q := by
  obtain ⟨h1', h2⟩ := zin_nI hi hn (mlen_lt j)
  have hb := mb.2.2 j hj
  obtain ⟨k1, k2, k3⟩ := mlong_kd hj
  refine V_laload (κ := 170 + j) (n := n) d hb.2.2.1 (by show zkd (hT h (ad j)) = 170 + j; rw [hb.2.1]; exact k1) k2 (by show vp_in i (hN h (ad j)); rw [hb.2.2.2.1]; exact h1') h2 ?_
  rw [ms_B mb hj, hv]
  exact k
theorem M_bs {j : Nat} {x : Int64} (mb : MB h m ad) (hj : mlong j = true) (hi : i = nI n) (hn : n < mlen j) (d : Dc cc pc .lastore 1 pc') (k : V w mi cc L cb sb (ms h A (va_up B j (va_up (B j) n x)) F S) pc' ls st Q) : V w mi cc L cb sb (ms h A B F S) pc ls (.long x :: .int i :: .ref (ad j) :: st) Q := by
  obtain ⟨h1', h2⟩ := zin_nI hi hn (mlen_lt j)
  have hb := mb.2.2 j hj
  obtain ⟨k1, k2, k3⟩ := mlong_kd hj
  refine V_lastore (κ := 170 + j) (n := n) d hb.2.2.1 (by show zkd (hT h (ad j)) = 170 + j; rw [hb.2.1]; exact k1) k2 k3 (by show vp_in i (hN h (ad j)); rw [hb.2.2.2.1]; exact h1') h2 ?_
  rw [ms_B mb hj, ms_wB mb hj]
  exact k
/-- a call of the model's own method -/
theorem M_call {mi' : Mi} {cc' : ByteArray} {L' n' : Nat} {st0 as : List Value} {x : Value} {h1 : Hp} (mb : MB h m ad) (d : Dc cc pc (.invokevirtual idx) 3 pc') (lm : LM mi' cc' n') (l1 : Cond.methodLink mi.1.cls idx mi'.1 ∈ lw_all) (l2 : Cond.instanceMethod mi'.1 ∈ lw_all) (lc : mi'.1.cls = RX2) (l3 : Cond.selects RX2 mi'.1 mi'.1 ∈ lw_all) (con : Con w mi' cc' L' 0 0 (.ref m :: as) (ms h A B F S) (Rv x h1)) (hL : Nat.blt L' L = true) (hn : as.length = n') (hst : st0 = as.reverse ++ .ref m :: st) (hw : Nat.ble (st.map fun v => v.category).sum 8 = true) (kk : V w mi cc L cb sb h1 pc' ls (x :: st) Q) : V w mi cc L cb sb (ms h A B F S) pc ls st0 Q :=
  C_virtual (k := 2) (cb' := 0) (sb' := 0) d lm l1 l2 rfl lc l3 mb.1.2.1 (by show zkd (hT h m) = 2; rw [mb.1.1]; rfl) con hL hn hst hw kk
theorem M_callU {mi' : Mi} {cc' : ByteArray} {L' n' : Nat} {st0 as : List Value} {h1 : Hp} (mb : MB h m ad) (d : Dc cc pc (.invokevirtual idx) 3 pc') (lm : LM mi' cc' n') (l1 : Cond.methodLink mi.1.cls idx mi'.1 ∈ lw_all) (l2 : Cond.instanceMethod mi'.1 ∈ lw_all) (lc : mi'.1.cls = RX2) (l3 : Cond.selects RX2 mi'.1 mi'.1 ∈ lw_all) (con : Con w mi' cc' L' 0 0 (.ref m :: as) (ms h A B F S) (Ru h1)) (hL : Nat.blt L' L = true) (hn : as.length = n') (hst : st0 = as.reverse ++ .ref m :: st) (hw : Nat.ble (st.map fun v => v.category).sum 8 = true) (kk : V w mi cc L cb sb h1 pc' ls st Q) : V w mi cc L cb sb (ms h A B F S) pc ls st0 Q :=
  C_virtualU (k := 2) (cb' := 0) (sb' := 0) d lm l1 l2 rfl lc l3 mb.1.2.1 (by show zkd (hT h m) = 2; rw [mb.1.1]; rfl) con hL hn hst hw kk
end MS
