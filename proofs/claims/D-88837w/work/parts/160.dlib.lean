/-! DECOMPILED METHODS: partial functions over the plain heap, with what they cost (cells, slots) -/
abbrev M (α : Type) : Type := Hp → Option (α × Hp × Nat × Nat)
def zrt {α : Type} (a : α) : M α := fun h => some (a, h, 0, 0)
def zno {α : Type} : M α := fun _ => none
def zbd {α β : Type} (m : M α) (f : α → M β) : M β := fun h => match m h with
  | none => none
  | some (a, h1, c1, s1) => match f a h1 with
    | none => none
    | some (b, h2, c2, s2) => some (b, h2, c2 + c1, s2 + s1)
def zif {α : Type} (p : Prop) [Decidable p] (A B : M α) : M α := fun h => if p then A h else B h
section
variable {α β : Type} {m : M α} {f : α → M β} {h h1 : Hp} {x : β} {c s : Nat}
theorem zbd_ok (H : zbd m f h = some (x, h1, c, s)) : ∃ a h' c1 s1 c2 s2, m h = some (a, h', c1, s1) ∧ f a h' = some (x, h1, c2, s2) ∧ c = c2 + c1 ∧ s = s2 + s1 := by
  unfold zbd at H
  cases e : m h with
  | none => rw [e] at H; cases H
  | some q =>
    obtain ⟨a, h', c1, s1⟩ := q
    rw [e] at H
    simp only at H
    cases e2 : f a h' with
    | none => rw [e2] at H; cases H
    | some q2 =>
      obtain ⟨b, h2, c2, s2⟩ := q2
      rw [e2] at H
      cases H
      exact ⟨a, h', c1, s1, c2, s2, rfl, e2, rfl, rfl⟩
theorem zbd_eq {a : α} {h' : Hp} {c1 s1 : Nat} (e : m h = some (a, h', c1, s1)) : zbd m f h = match f a h' with
    | none => none
    | some (b, h2, c2, s2) => some (b, h2, c2 + c1, s2 + s1) := by
  unfold zbd; rw [e]
theorem zbd_run {a : α} {h' : Hp} {c1 s1 c2 s2 : Nat} (e : m h = some (a, h', c1, s1)) (e2 : f a h' = some (x, h1, c2, s2)) : zbd m f h = some (x, h1, c2 + c1, s2 + s1) := by
  rw [zbd_eq e, e2]
theorem zbd_pure {a : α} (e : m h = some (a, h, 0, 0)) : zbd m f h = f a h := by
  rw [zbd_eq e]
  cases f a h with
  | none => rfl
  | some q => rfl
theorem zif_t {p : Prop} [Decidable p] {A B : M β} (q : p) (H : zif p A B h = some (x, h1, c, s)) : A h = some (x, h1, c, s) := by
  unfold zif at H; rwa [if_pos q] at H
theorem zif_f {p : Prop} [Decidable p] {A B : M β} (q : ¬ p) (H : zif p A B h = some (x, h1, c, s)) : B h = some (x, h1, c, s) := by
  unfold zif at H; rwa [if_neg q] at H
theorem zrt_ok {a : β} (H : zrt a h = some (x, h1, c, s)) : x = a ∧ h1 = h ∧ c = 0 ∧ s = 0 := by
  unfold zrt at H; cases H; exact ⟨rfl, rfl, rfl, rfl⟩
end
/-- an object's cell and its field's place -/
def zob (f : Nat → Option Nat) (r : Option Nat) (h : Hp) : Option (Nat × Nat) := match r with
  | none => none
  | some a => if a < hZ h then (match f (zkd (hT h a)) with | none => none | some j => some (a, j)) else none
theorem zob_ok {f : Nat → Option Nat} {r : Option Nat} {h : Hp} {a j : Nat} (e : zob f r h = some (a, j)) : r = some a ∧ a < hZ h ∧ f (zkd (hT h a)) = some j := by
  unfold zob at e
  cases r with
  | none => cases e
  | some b =>
    simp only at e
    split at e
    · rename_i hb
      cases e2 : f (zkd (hT h b)) with
      | none => rw [e2] at e; cases e
      | some i => rw [e2] at e; cases e; exact ⟨rfl, hb, e2⟩
    · cases e
theorem zob_eq {f : Nat → Option Nat} {h : Hp} {a j : Nat} (hb : a < hZ h) (e2 : f (zkd (hT h a)) = some j) : zob f (some a) h = some (a, j) := by
  unfold zob; simp only; rw [if_pos hb, e2]
def zgI (f : Nat → Option Nat) (r : Option Nat) : M Int32 := fun h => match zob f r h with | none => none | some (a, j) => some (hI h a j, h, 0, 0)
def zgL (f : Nat → Option Nat) (r : Option Nat) : M Int64 := fun h => match zob f r h with | none => none | some (a, j) => some (hL h a j, h, 0, 0)
def zgR (f : Nat → Option Nat) (r : Option Nat) : M (Option Nat) := fun h => match zob f r h with | none => none | some (a, j) => some (hR h a j, h, 0, 0)
def zpI (f : Nat → Option Nat) (r : Option Nat) (v : Int32) : M Unit := fun h => match zob f r h with | none => none | some (a, j) => some ((), wI h a (va_up (hI h a) j v), 0, 0)
def zpZ (f : Nat → Option Nat) (r : Option Nat) (v : Int32) : M Unit := fun h => if v = 0 ∨ v = 1 then zpI f r v h else none
def zpL (f : Nat → Option Nat) (r : Option Nat) (v : Int64) : M Unit := fun h => match zob f r h with | none => none | some (a, j) => some ((), wL h a (va_up (hL h a) j v), 0, 0)
def zpR (f : Nat → Option Nat) (r : Option Nat) (v : Option Nat) : M Unit := fun h => match zob f r h with | none => none | some (a, j) => some ((), wR h a (va_up (hR h a) j v), 0, 0)
/-- an array's cell and place -/
def zel (q : Nat → Bool) (r : Option Nat) (i : Int32) (h : Hp) : Option (Nat × Nat) := match r with
  | none => none
  | some a => if a < hZ h ∧ q (zkd (hT h a)) = true ∧ ¬ i < 0 ∧ i.toNatClampNeg < hN h a then some (a, i.toNatClampNeg) else none
theorem zel_ok {q : Nat → Bool} {r : Option Nat} {i : Int32} {h : Hp} {a n : Nat} (e : zel q r i h = some (a, n)) : r = some a ∧ a < hZ h ∧ q (zkd (hT h a)) = true ∧ vp_in i (hN h a) ∧ i.toNatClampNeg = n := by
  unfold zel at e
  cases r with
  | none => cases e
  | some b =>
    simp only at e
    split at e
    · rename_i hb
      cases e
      exact ⟨rfl, hb.1, hb.2.1, fun z => by rcases z with z | z; exact hb.2.2.1 z; have := hb.2.2.2; omega, rfl⟩
    · cases e
theorem zel_eq {q : Nat → Bool} {i : Int32} {h : Hp} {a : Nat} (h1 : a < hZ h) (h2 : q (zkd (hT h a)) = true) (h3 : ¬ i < 0) (h4 : i.toNatClampNeg < hN h a) : zel q (some a) i h = some (a, i.toNatClampNeg) := by
  unfold zel; simp only; rw [if_pos ⟨h1, h2, h3, h4⟩]
/-- arrays of a type (to read; to write) -/
def zqr (c : Nat) (κ : Nat) : Bool := zak κ == some c
def zqw (c : Nat) (κ : Nat) : Bool := zak κ == some c && Nat.blt κ 650
def zqR (κ : Nat) : Bool := zak κ == some 6 || zak κ == some 7 || zak κ == some 8 || zak κ == some 9 || zak κ == some 10
theorem zqr_ok {c κ : Nat} (h : zqr c κ = true) : zak κ = some c := by simpa [zqr] using h
theorem zqw_ok {c κ : Nat} (h : zqw c κ = true) : zak κ = some c ∧ Nat.blt κ 650 = true := by
  unfold zqw at h
  rw [Bool.and_eq_true] at h
  exact ⟨by simpa using h.1, h.2⟩
theorem zqR_ok {κ : Nat} (h : zqR κ = true) : zak κ = some 6 ∨ zak κ = some 7 ∨ zak κ = some 8 ∨ zak κ = some 9 ∨ zak κ = some 10 := by
  simpa [zqR, or_assoc] using h
def zaI (c : Nat) (r : Option Nat) (i : Int32) : M Int32 := fun h => match zel (zqr c) r i h with | none => none | some (a, n) => some (hI h a n, h, 0, 0)
def zaL (r : Option Nat) (i : Int32) : M Int64 := fun h => match zel (zqr 1) r i h with | none => none | some (a, n) => some (hL h a n, h, 0, 0)
def zaR (r : Option Nat) (i : Int32) : M (Option Nat) := fun h => match zel zqR r i h with | none => none | some (a, n) => some (hR h a n, h, 0, 0)
def zsI (c : Nat) (r : Option Nat) (i : Int32) (v : Int32) : M Unit := fun h => match zel (zqw c) r i h with | none => none | some (a, n) => some ((), wI h a (va_up (hI h a) n v), 0, 0)
def zsZ (r : Option Nat) (i : Int32) (v : Int32) : M Unit := fun h => if v = 0 ∨ v = 1 then zsI 5 r i v h else none
def zsL (r : Option Nat) (i : Int32) (v : Int64) : M Unit := fun h => match zel (zqw 1) r i h with | none => none | some (a, n) => some ((), wL h a (va_up (hL h a) n v), 0, 0)
/-- what may lie in an array of references: null; in one of objects (6) an object; in one of sheets (7) a sheet; in one of arrays an array -/
def zput' (c : Nat) (κv : Nat) : Bool := (c == 6 && (zok κv && Nat.blt κv 40)) || (c == 7 && (κv == 26 || κv == 27 || κv == 28)) || (c == 8 && zak κv == some 0) || (c == 9 && zak κv == some 1) || (c == 10 && zak κv == some 4)
def zsR (c : Nat) (r : Option Nat) (i : Int32) (v : Option Nat) : M Unit := fun h => match zel (zqw c) r i h with
  | none => none
  | some (a, n) => match v with
    | none => if c = 6 ∨ c = 7 then some ((), wR h a (va_up (hR h a) n none), 0, 0) else none
    | some b => if b < hZ h ∧ zput' c (zkd (hT h b)) = true then some ((), wR h a (va_up (hR h a) n (some b)), 0, 0) else none
def zal (r : Option Nat) : M Int32 := fun h => match r with
  | none => none
  | some a => if a < hZ h ∧ (zak (zkd (hT h a))).isSome = true then some (nI (hN h a), h, 0, 0) else none
def znw (k g n : Nat) : M (Option Nat) := fun h => some (some (hZ h), nw h (k + 1000 * g) 0, 1, n)
def znA (κ g : Nat) (v : Int32) : M (Option Nat) := fun h => if ¬ v < 0 ∧ v.toNatClampNeg ≤ 1000000 then some (some (hZ h), nw h (κ + 1000 * g) v.toNatClampNeg, 1, v.toNatClampNeg) else none
/-- a ghost that names the owner -/
def zgo (r : Option Nat) (q : Nat) : Nat := match r with | none => 0 | some a => 1000 + 16 * a + q
/-- the ghost of a cell -/
def zgh (h : Hp) (r : Option Nat) : Nat := match r with | none => 0 | some a => hT h a / 1000
def znG (κ : Nat) (r : Option Nat) (v : Int32) : M (Option Nat) := fun h => znA κ (zgh h r) v h
/-- a receiver of a kind -/
def zv1 {α : Type} (k : Nat) (r : Option Nat) (f : Nat → M α) : M α := fun h => match r with
  | none => none
  | some a => if a < hZ h ∧ zkd (hT h a) = k then f a h else none
def zvn {α : Type} (t : Nat → Option (Nat → M α)) (r : Option Nat) : M α := fun h => match r with
  | none => none
  | some a => if a < hZ h then (match t (zkd (hT h a)) with | none => none | some f => f a h) else none
/-- a receiver that is no null -/
def znn {α : Type} (r : Option Nat) (f : Nat → M α) : M α := fun h => match r with | none => none | some a => f a h
/-- casts: yes, no -/
def zcc (y : Nat → Bool) (r : Option Nat) : M Unit := fun h => match r with
  | none => some ((), h, 0, 0)
  | some a => if a < hZ h ∧ y (zkd (hT h a)) = true then some ((), h, 0, 0) else none
def zio (y n : Nat → Bool) (r : Option Nat) : M Int32 := fun h => match r with
  | none => some (0, h, 0, 0)
  | some a => if a < hZ h then (if y (zkd (hT h a)) = true then some (1, h, 0, 0) else if n (zkd (hT h a)) = true then some (0, h, 0, 0) else none) else none
def zgd (p : Prop) [Decidable p] : M Unit := fun h => if p then some ((), h, 0, 0) else none
section
variable {α : Type} {k : Nat} {r : Option Nat} {f : Nat → M α} {t : Nat → Option (Nat → M α)} {h h1 : Hp} {x : α} {c s : Nat}
theorem zv1_ok (H : zv1 k r f h = some (x, h1, c, s)) : ∃ a, r = some a ∧ a < hZ h ∧ zkd (hT h a) = k ∧ f a h = some (x, h1, c, s) := by
  unfold zv1 at H
  cases r with
  | none => cases H
  | some a =>
    simp only at H
    split at H
    · rename_i q; exact ⟨a, rfl, q.1, q.2, H⟩
    · cases H
theorem zvn_ok (H : zvn t r h = some (x, h1, c, s)) : ∃ a f, r = some a ∧ a < hZ h ∧ t (zkd (hT h a)) = some f ∧ f a h = some (x, h1, c, s) := by
  unfold zvn at H
  cases r with
  | none => cases H
  | some a =>
    simp only at H
    split at H
    · rename_i q
      cases e : t (zkd (hT h a)) with
      | none => rw [e] at H; cases H
      | some f => rw [e] at H; exact ⟨a, f, rfl, q, e, H⟩
    · cases H
theorem znn_ok (H : znn r f h = some (x, h1, c, s)) : ∃ a, r = some a ∧ f a h = some (x, h1, c, s) := by
  unfold znn at H
  cases r with
  | none => cases H
  | some a => exact ⟨a, rfl, H⟩
end
def Ro (o : Outcome) (h : Hp) : Outcome → Hp → Prop := fun o' h' => o' = o ∧ h' = h
def oI (x : Int32) : Outcome := .returned (some (.int x))
def oL (x : Int64) : Outcome := .returned (some (.long x))
def oR (x : Option Nat) : Outcome := .returned (some (va_rf x))
def oU (_ : Unit) : Outcome := .returned none
theorem hRet_oI (x : Int32) (h : Hp) : hRet (Ro (oI x) h) := fun o h' q => ⟨_, q.1⟩
theorem hRet_oL (x : Int64) (h : Hp) : hRet (Ro (oL x) h) := fun o h' q => ⟨_, q.1⟩
theorem hRet_oR (x : Option Nat) (h : Hp) : hRet (Ro (oR x) h) := fun o h' q => ⟨_, q.1⟩
theorem hRet_oU (x : Unit) (h : Hp) : hRet (Ro (oU x) h) := fun o h' q => ⟨_, q.1⟩
theorem zno_no {α : Type} {P : Prop} {h : Hp} {y : α × Hp × Nat × Nat} (H : zno h = some y) : P := by cases H
theorem zsn {r : Option Nat} {a : Nat} (q : r = some a) : ¬ r = none := fun z => by rw [z] at q; cases q
/-- a receiver of a class that is known -/
def zv0 {α : Type} (r : Option Nat) (f : Nat → M α) : M α := fun h => match r with
  | none => none
  | some a => if a < hZ h ∧ zok (zkd (hT h a)) = true then f a h else none
theorem zv0_ok {α : Type} {r : Option Nat} {f : Nat → M α} {h h1 : Hp} {x : α} {c s : Nat} (H : zv0 r f h = some (x, h1, c, s)) : ∃ a, r = some a ∧ a < hZ h ∧ zok (zkd (hT h a)) = true ∧ f a h = some (x, h1, c, s) := by
  unfold zv0 at H
  cases r with
  | none => cases H
  | some a =>
    simp only at H
    split at H
    · rename_i q; exact ⟨a, rfl, q.1, q.2, H⟩
    · cases H
theorem zcr (r : Option Nat) : (va_rf r).category = 1 := by cases r <;> rfl
theorem zar_r (r : Option Nat) (t : List Value) : zar (va_rf r :: t) = some (va_rf r) :: zar t := by cases r <;> rfl
theorem zar_a (a : Nat) (t : List Value) : zar (.ref a :: t) = some (.ref a) :: zar t := rfl
theorem zar_i (x : Int32) (t : List Value) : zar (.int x :: t) = some (.int x) :: zar t := rfl
theorem zar_l (x : Int64) (t : List Value) : zar (.long x :: t) = some (.long x) :: none :: zar t := rfl
theorem zar_n : zar [] = [] := rfl
theorem zsl_r (r : Option Nat) (t : List Value) : (lg_sl (va_rf r :: t)).length = (lg_sl t).length + 1 := by cases r <;> rfl
theorem zsl_a (a : Nat) (t : List Value) : (lg_sl (.ref a :: t)).length = (lg_sl t).length + 1 := rfl
theorem zsl_i (x : Int32) (t : List Value) : (lg_sl (.int x :: t)).length = (lg_sl t).length + 1 := rfl
theorem zsl_l (x : Int64) (t : List Value) : (lg_sl (.long x :: t)).length = (lg_sl t).length + 2 := rfl
theorem zsl_n : (lg_sl []).length = 0 := rfl
theorem znl_rf (r : Option Nat) : znl (some (va_rf r)) = true := by cases r <;> rfl
/-- locals forgotten -/
def zfg : List (Option Value) → List (Option Value) → Prop
  | _, [] => True
  | [], _ :: _ => False
  | a :: t, b :: t' => (b = none ∨ a = b) ∧ zfg t t'
theorem zfg_at : ∀ {ls ls' : List (Option Value)}, zfg ls ls' → ∀ (i : Nat) (v : Value), ls'[i]? = some (some v) → ls[i]? = some (some v)
  | _, [], _, i, v, h => by simp at h
  | [], _ :: _, q, _, _, _ => q.elim
  | a :: t, b :: t', q, i, v, h => by
    cases i with
    | zero =>
      simp at h ⊢
      rcases q.1 with e | e
      · rw [e] at h; cases h
      · rw [e]; exact h
    | succ i =>
      simp at h ⊢
      exact zfg_at q.2 i v h
/-- every class can be cast to Object -/
theorem zca6 {k : Nat} (ok : zok k = true) : Cond.castable (zcl k).1 "java/lang/Object" ∈ lw_tbl := by
  unfold zok at ok
  split at ok
  · exact q2429
  · exact q2431
  · exact q2432
  · exact q2433
  · exact q2434
  · exact q2435
  · exact q2436
  · exact q2437
  · exact q2438
  · exact q2439
  · exact q2440
  · exact q2441
  · exact q2442
  · exact q2443
  · exact q2444
  · exact q2445
  · exact q2446
  · exact q2447
  · exact q2448
  · exact q2449
  · exact q2450
  · exact q2451
  · exact q2452
  · exact q2454
  · exact q2453
  · exact q2430
  · exact absurd ok (by decide)
theorem zca26 : Cond.castable (zcl 26).1 "LinesPromised$Sheet" ∈ lw_tbl := q2457
theorem zca27 : Cond.castable (zcl 27).1 "LinesPromised$Sheet" ∈ lw_tbl := q2459
theorem zca28 : Cond.castable (zcl 28).1 "LinesPromised$Sheet" ∈ lw_tbl := q2458
section
variable {w : Wd} {mi : Mi} {cc : ByteArray} {L cb sb : Nat} {h h1 : Hp} {pc pc' idx : Nat} {ls ls' : List (Option Value)} {st : List Value} {Q : Outcome → Hp → Prop} {β : Type} {x : β} {c s : Nat}
theorem V_fg (hs : zfg ls ls') (k : V w mi cc L cb sb h pc ls' st Q) : V w mi cc L cb sb h pc ls st Q := by
  intro p l e R s m args below meth c H locs cells slots lsA F a1 a2 a3 a4 a5 a6 hl
  exact k p l e R s m args below meth c H locs cells slots lsA F a1 a2 a3 a4 a5 a6 (zls.sub hl (fun i v hi => zP_mem.mpr ⟨i, by omega, zfg_at hs i v hi⟩))
theorem D_null (d : Dc cc pc (.aconst_null) 1 pc') (k : V w mi cc L cb sb h pc' ls (va_rf none :: st) Q) : V w mi cc L cb sb h pc ls st Q := V_aconst_null d k
theorem V_fg2 (k : V w mi cc L cb sb h pc ls' st Q) (hs : zfg ls ls') : V w mi cc L cb sb h pc ls st Q := V_fg hs k
theorem zfg_e : zfg [] [] := trivial
theorem zfg_n {a : Option Value} {t t' : List (Option Value)} (q : zfg t t') : zfg (a :: t) (none :: t') := ⟨Or.inl rfl, q⟩
theorem zfg_k {a : Option Value} {t t' : List (Option Value)} (q : zfg t t') : zfg (a :: t) (a :: t') := ⟨Or.inr rfl, q⟩
/-- what is known of a field's row in the constant pool -/
def FQ (own : String) (idx : Nat) (f : Nat → Option Nat) (P : FieldType → Prop) : Prop := ∀ k j, f k = some j → FL own idx k j ∧ P (zty k j)
def tI (t : FieldType) : Prop := t = .int ∨ t = .boolean ∨ t = .byte
def tN (t : FieldType) : Prop := t = .int
def tZ (t : FieldType) : Prop := t = .boolean
def tL (t : FieldType) : Prop := t = .long
def tR (t : FieldType) : Prop := (∃ C, t = .object C) ∨ ∃ u, t = .array u
def FN (mi : Mi) (idx : Nat) (f : Nat → Option Nat) : Prop := ∀ k j, f k = some j → Fin mi idx k j
variable {f : Nat → Option Nat} {r : Option Nat}
theorem D_gI {g : Int32 → M β} (d : Dc cc pc (.getfield idx) 3 pc') (fl : FQ mi.1.cls idx f tI) (H : zbd (zgI f r) g h = some (x, h1, c, s)) (kk : ∀ v, g v h = some (x, h1, c, s) → V w mi cc L c s h pc' ls (.int v :: st) Q) : V w mi cc L c s h pc ls (va_rf r :: st) Q := by
  obtain ⟨a, h', c1, s1, c2, s2, e1, e2, rfl, rfl⟩ := zbd_ok H
  unfold zgI at e1
  cases e3 : zob f r h with
  | none => rw [e3] at e1; cases e1
  | some q =>
    obtain ⟨b, j⟩ := q
    rw [e3] at e1
    cases e1
    obtain ⟨rfl, hb, hf⟩ := zob_ok e3
    obtain ⟨q1, q2⟩ := fl _ _ hf
    refine V_getF d q1 rfl hb ?_ (kk _ e2)
    rcases q2 with q2 | q2 | q2 <;> rw [q2] <;> rfl
theorem D_gL {g : Int64 → M β} (d : Dc cc pc (.getfield idx) 3 pc') (fl : FQ mi.1.cls idx f tL) (H : zbd (zgL f r) g h = some (x, h1, c, s)) (kk : ∀ v, g v h = some (x, h1, c, s) → V w mi cc L c s h pc' ls (.long v :: st) Q) : V w mi cc L c s h pc ls (va_rf r :: st) Q := by
  obtain ⟨a, h', c1, s1, c2, s2, e1, e2, rfl, rfl⟩ := zbd_ok H
  unfold zgL at e1
  cases e3 : zob f r h with
  | none => rw [e3] at e1; cases e1
  | some q =>
    obtain ⟨b, j⟩ := q
    rw [e3] at e1
    cases e1
    obtain ⟨rfl, hb, hf⟩ := zob_ok e3
    obtain ⟨q1, q2⟩ := fl _ _ hf
    refine V_getF d q1 rfl hb ?_ (kk _ e2)
    rw [q2]; rfl
theorem D_gR {g : Option Nat → M β} (d : Dc cc pc (.getfield idx) 3 pc') (fl : FQ mi.1.cls idx f tR) (H : zbd (zgR f r) g h = some (x, h1, c, s)) (kk : ∀ v, g v h = some (x, h1, c, s) → V w mi cc L c s h pc' ls (va_rf v :: st) Q) : V w mi cc L c s h pc ls (va_rf r :: st) Q := by
  obtain ⟨a, h', c1, s1, c2, s2, e1, e2, rfl, rfl⟩ := zbd_ok H
  unfold zgR at e1
  cases e3 : zob f r h with
  | none => rw [e3] at e1; cases e1
  | some q =>
    obtain ⟨b, j⟩ := q
    rw [e3] at e1
    cases e1
    obtain ⟨rfl, hb, hf⟩ := zob_ok e3
    obtain ⟨q1, q2⟩ := fl _ _ hf
    refine V_getF d q1 rfl hb ?_ (kk _ e2)
    rcases q2 with ⟨C, q2⟩ | ⟨u, q2⟩ <;> rw [q2] <;> rfl
theorem D_pI {v : Int32} {g : Unit → M β} (d : Dc cc pc (.putfield idx) 3 pc') (fl : FQ mi.1.cls idx f tN) (fn : FN mi idx f) (H : zbd (zpI f r v) g h = some (x, h1, c, s)) (kk : ∀ h', g () h' = some (x, h1, c, s) → V w mi cc L c s h' pc' ls st Q) : V w mi cc L c s h pc ls (.int v :: va_rf r :: st) Q := by
  obtain ⟨a, h', c1, s1, c2, s2, e1, e2, rfl, rfl⟩ := zbd_ok H
  unfold zpI at e1
  cases e3 : zob f r h with
  | none => rw [e3] at e1; cases e1
  | some q =>
    obtain ⟨b, j⟩ := q
    rw [e3] at e1
    cases e1
    obtain ⟨rfl, hb, hf⟩ := zob_ok e3
    obtain ⟨q1, q2⟩ := fl _ _ hf
    exact V_putI d q1 rfl hb (fn _ _ hf) q2 (kk _ e2)
theorem D_pZ {v : Int32} {g : Unit → M β} (d : Dc cc pc (.putfield idx) 3 pc') (fl : FQ mi.1.cls idx f tZ) (fn : FN mi idx f) (H : zbd (zpZ f r v) g h = some (x, h1, c, s)) (kk : ∀ h', g () h' = some (x, h1, c, s) → V w mi cc L c s h' pc' ls st Q) : V w mi cc L c s h pc ls (.int v :: va_rf r :: st) Q := by
  obtain ⟨a, h', c1, s1, c2, s2, e1, e2, rfl, rfl⟩ := zbd_ok H
  unfold zpZ at e1
  split at e1
  · rename_i hv
    unfold zpI at e1
    cases e3 : zob f r h with
    | none => rw [e3] at e1; cases e1
    | some q =>
      obtain ⟨b, j⟩ := q
      rw [e3] at e1
      cases e1
      obtain ⟨rfl, hb, hf⟩ := zob_ok e3
      obtain ⟨q1, q2⟩ := fl _ _ hf
      exact V_putZ d q1 rfl hb (fn _ _ hf) q2 hv (kk _ e2)
  · cases e1
theorem D_pL {v : Int64} {g : Unit → M β} (d : Dc cc pc (.putfield idx) 3 pc') (fl : FQ mi.1.cls idx f tL) (fn : FN mi idx f) (H : zbd (zpL f r v) g h = some (x, h1, c, s)) (kk : ∀ h', g () h' = some (x, h1, c, s) → V w mi cc L c s h' pc' ls st Q) : V w mi cc L c s h pc ls (.long v :: va_rf r :: st) Q := by
  obtain ⟨a, h', c1, s1, c2, s2, e1, e2, rfl, rfl⟩ := zbd_ok H
  unfold zpL at e1
  cases e3 : zob f r h with
  | none => rw [e3] at e1; cases e1
  | some q =>
    obtain ⟨b, j⟩ := q
    rw [e3] at e1
    cases e1
    obtain ⟨rfl, hb, hf⟩ := zob_ok e3
    obtain ⟨q1, q2⟩ := fl _ _ hf
    exact V_putL d q1 rfl hb (fn _ _ hf) q2 (kk _ e2)
theorem D_pR {v : Option Nat} {g : Unit → M β} (d : Dc cc pc (.putfield idx) 3 pc') (fl : FQ mi.1.cls idx f tR) (fn : FN mi idx f) (H : zbd (zpR f r v) g h = some (x, h1, c, s)) (kk : ∀ h', g () h' = some (x, h1, c, s) → V w mi cc L c s h' pc' ls st Q) : V w mi cc L c s h pc ls (va_rf v :: va_rf r :: st) Q := by
  obtain ⟨a, h', c1, s1, c2, s2, e1, e2, rfl, rfl⟩ := zbd_ok H
  unfold zpR at e1
  cases e3 : zob f r h with
  | none => rw [e3] at e1; cases e1
  | some q =>
    obtain ⟨b, j⟩ := q
    rw [e3] at e1
    cases e1
    obtain ⟨rfl, hb, hf⟩ := zob_ok e3
    obtain ⟨q1, q2⟩ := fl _ _ hf
    exact V_putR d q1 rfl hb (fn _ _ hf) q2 (kk _ e2)
/-! arrays -/
variable {i : Int32}
theorem zel_cases {α : Type} {q : Nat → Bool} {F : Nat → Nat → Option α} {y : α} (e : (match zel q r i h with | none => none | some (a, n) => F a n) = some y) : ∃ a, r = some a ∧ a < hZ h ∧ q (zkd (hT h a)) = true ∧ vp_in i (hN h a) ∧ F a i.toNatClampNeg = some y := by
  cases e3 : zel q r i h with
  | none => rw [e3] at e; cases e
  | some p =>
    obtain ⟨a, n⟩ := p
    rw [e3] at e
    obtain ⟨z1, z2, z3, z4, rfl⟩ := zel_ok e3
    exact ⟨a, z1, z2, z3, z4, e⟩
theorem D_iaload {g : Int32 → M β} (d : Dc cc pc .iaload 1 pc') (H : zbd (zaI 0 r i) g h = some (x, h1, c, s)) (kk : ∀ v, g v h = some (x, h1, c, s) → V w mi cc L c s h pc' ls (.int v :: st) Q) : V w mi cc L c s h pc ls (.int i :: va_rf r :: st) Q := by
  obtain ⟨a, h', c1, s1, c2, s2, e1, e2, rfl, rfl⟩ := zbd_ok H
  obtain ⟨b, rfl, hb, hq, hi, e1⟩ := zel_cases e1
  cases e1
  exact V_iaload d hb rfl (zqr_ok hq) hi rfl (kk _ e2)
theorem D_baload {g : Int32 → M β} (d : Dc cc pc .baload 1 pc') (H : zbd (zaI 2 r i) g h = some (x, h1, c, s)) (kk : ∀ v, g v h = some (x, h1, c, s) → V w mi cc L c s h pc' ls (.int v :: st) Q) : V w mi cc L c s h pc ls (.int i :: va_rf r :: st) Q := by
  obtain ⟨a, h', c1, s1, c2, s2, e1, e2, rfl, rfl⟩ := zbd_ok H
  obtain ⟨b, rfl, hb, hq, hi, e1⟩ := zel_cases e1
  cases e1
  exact V_baload d hb rfl (zqr_ok hq) hi rfl (kk _ e2)
theorem D_zaload {g : Int32 → M β} (d : Dc cc pc .baload 1 pc') (H : zbd (zaI 5 r i) g h = some (x, h1, c, s)) (kk : ∀ v, g v h = some (x, h1, c, s) → V w mi cc L c s h pc' ls (.int v :: st) Q) : V w mi cc L c s h pc ls (.int i :: va_rf r :: st) Q := by
  obtain ⟨a, h', c1, s1, c2, s2, e1, e2, rfl, rfl⟩ := zbd_ok H
  obtain ⟨b, rfl, hb, hq, hi, e1⟩ := zel_cases e1
  cases e1
  exact V_zaload d hb rfl (zqr_ok hq) hi rfl (kk _ e2)
theorem D_saload {g : Int32 → M β} (d : Dc cc pc .saload 1 pc') (H : zbd (zaI 3 r i) g h = some (x, h1, c, s)) (kk : ∀ v, g v h = some (x, h1, c, s) → V w mi cc L c s h pc' ls (.int v :: st) Q) : V w mi cc L c s h pc ls (.int i :: va_rf r :: st) Q := by
  obtain ⟨a, h', c1, s1, c2, s2, e1, e2, rfl, rfl⟩ := zbd_ok H
  obtain ⟨b, rfl, hb, hq, hi, e1⟩ := zel_cases e1
  cases e1
  exact V_saload d hb rfl (zqr_ok hq) hi rfl (kk _ e2)
theorem D_caload {g : Int32 → M β} (d : Dc cc pc .caload 1 pc') (H : zbd (zaI 4 r i) g h = some (x, h1, c, s)) (kk : ∀ v, g v h = some (x, h1, c, s) → V w mi cc L c s h pc' ls (.int v :: st) Q) : V w mi cc L c s h pc ls (.int i :: va_rf r :: st) Q := by
  obtain ⟨a, h', c1, s1, c2, s2, e1, e2, rfl, rfl⟩ := zbd_ok H
  obtain ⟨b, rfl, hb, hq, hi, e1⟩ := zel_cases e1
  cases e1
  exact V_caload d hb rfl (zqr_ok hq) hi rfl (kk _ e2)
theorem D_laload {g : Int64 → M β} (d : Dc cc pc .laload 1 pc') (H : zbd (zaL r i) g h = some (x, h1, c, s)) (kk : ∀ v, g v h = some (x, h1, c, s) → V w mi cc L c s h pc' ls (.long v :: st) Q) : V w mi cc L c s h pc ls (.int i :: va_rf r :: st) Q := by
  obtain ⟨a, h', c1, s1, c2, s2, e1, e2, rfl, rfl⟩ := zbd_ok H
  obtain ⟨b, rfl, hb, hq, hi, e1⟩ := zel_cases e1
  cases e1
  exact V_laload d hb rfl (zqr_ok hq) hi rfl (kk _ e2)
theorem D_aaload {g : Option Nat → M β} (d : Dc cc pc .aaload 1 pc') (H : zbd (zaR r i) g h = some (x, h1, c, s)) (kk : ∀ v, g v h = some (x, h1, c, s) → V w mi cc L c s h pc' ls (va_rf v :: st) Q) : V w mi cc L c s h pc ls (.int i :: va_rf r :: st) Q := by
  obtain ⟨a, h', c1, s1, c2, s2, e1, e2, rfl, rfl⟩ := zbd_ok H
  obtain ⟨b, rfl, hb, hq, hi, e1⟩ := zel_cases e1
  cases e1
  rcases zqR_ok hq with q | q | q | q | q
  · exact V_aaload6 d hb rfl q hi rfl (kk _ e2)
  · exact V_aaload7 d hb rfl q hi rfl (kk _ e2)
  · exact V_aaload8 d hb rfl q hi rfl (kk _ e2)
  · exact V_aaload9 d hb rfl q hi rfl (kk _ e2)
  · exact V_aaload10 d hb rfl q hi rfl (kk _ e2)
theorem D_iastore {v : Int32} {g : Unit → M β} (d : Dc cc pc .iastore 1 pc') (H : zbd (zsI 0 r i v) g h = some (x, h1, c, s)) (kk : ∀ h', g () h' = some (x, h1, c, s) → V w mi cc L c s h' pc' ls st Q) : V w mi cc L c s h pc ls (.int v :: .int i :: va_rf r :: st) Q := by
  obtain ⟨a, h', c1, s1, c2, s2, e1, e2, rfl, rfl⟩ := zbd_ok H
  obtain ⟨b, rfl, hb, hq, hi, e1⟩ := zel_cases e1
  cases e1
  exact V_iastore d hb rfl (zqw_ok hq).1 (zqw_ok hq).2 hi rfl (kk _ e2)
theorem D_lastore {v : Int64} {g : Unit → M β} (d : Dc cc pc .lastore 1 pc') (H : zbd (zsL r i v) g h = some (x, h1, c, s)) (kk : ∀ h', g () h' = some (x, h1, c, s) → V w mi cc L c s h' pc' ls st Q) : V w mi cc L c s h pc ls (.long v :: .int i :: va_rf r :: st) Q := by
  obtain ⟨a, h', c1, s1, c2, s2, e1, e2, rfl, rfl⟩ := zbd_ok H
  obtain ⟨b, rfl, hb, hq, hi, e1⟩ := zel_cases e1
  cases e1
  exact V_lastore d hb rfl (zqw_ok hq).1 (zqw_ok hq).2 hi rfl (kk _ e2)
theorem D_zastore {v : Int32} {g : Unit → M β} (d : Dc cc pc .bastore 1 pc') (H : zbd (zsZ r i v) g h = some (x, h1, c, s)) (kk : ∀ h', g () h' = some (x, h1, c, s) → V w mi cc L c s h' pc' ls st Q) : V w mi cc L c s h pc ls (.int v :: .int i :: va_rf r :: st) Q := by
  obtain ⟨a, h', c1, s1, c2, s2, e1, e2, rfl, rfl⟩ := zbd_ok H
  unfold zsZ at e1
  split at e1
  · rename_i hv
    obtain ⟨b, rfl, hb, hq, hi, e1⟩ := zel_cases e1
    cases e1
    exact V_zastore d hb rfl (zqw_ok hq).1 (zqw_ok hq).2 hi rfl hv (kk _ e2)
  · cases e1
theorem D_arraylength {g : Int32 → M β} (d : Dc cc pc .arraylength 1 pc') (H : zbd (zal r) g h = some (x, h1, c, s)) (kk : ∀ v, g v h = some (x, h1, c, s) → V w mi cc L c s h pc' ls (.int v :: st) Q) : V w mi cc L c s h pc ls (va_rf r :: st) Q := by
  obtain ⟨a, h', c1, s1, c2, s2, e1, e2, rfl, rfl⟩ := zbd_ok H
  unfold zal at e1
  cases r with
  | none => cases e1
  | some b =>
    simp only at e1
    split at e1
    · rename_i hb
      cases e1
      obtain ⟨c9, q9⟩ := Option.isSome_iff_exists.mp hb.2
      exact V_arraylength d hb.1 rfl q9 rfl (kk _ e2)
    · cases e1
theorem D_bastore {v : Int32} {g : Unit → M β} (d : Dc cc pc .bastore 1 pc') (H : zbd (zsI 2 r i v.toInt8.toInt32) g h = some (x, h1, c, s)) (kk : ∀ h', g () h' = some (x, h1, c, s) → V w mi cc L c s h' pc' ls st Q) : V w mi cc L c s h pc ls (.int v :: .int i :: va_rf r :: st) Q := by
  obtain ⟨a, h', c1, s1, c2, s2, e1, e2, rfl, rfl⟩ := zbd_ok H
  obtain ⟨b, rfl, hb, hq, hi, e1⟩ := zel_cases e1
  cases e1
  exact V_bastore d hb rfl (zqw_ok hq).1 (zqw_ok hq).2 hi rfl (kk _ e2)
theorem D_sastore {v : Int32} {g : Unit → M β} (d : Dc cc pc .sastore 1 pc') (H : zbd (zsI 3 r i v.toInt16.toInt32) g h = some (x, h1, c, s)) (kk : ∀ h', g () h' = some (x, h1, c, s) → V w mi cc L c s h' pc' ls st Q) : V w mi cc L c s h pc ls (.int v :: .int i :: va_rf r :: st) Q := by
  obtain ⟨a, h', c1, s1, c2, s2, e1, e2, rfl, rfl⟩ := zbd_ok H
  obtain ⟨b, rfl, hb, hq, hi, e1⟩ := zel_cases e1
  cases e1
  exact V_sastore d hb rfl (zqw_ok hq).1 (zqw_ok hq).2 hi rfl (kk _ e2)
theorem D_castore {v : Int32} {g : Unit → M β} (d : Dc cc pc .castore 1 pc') (H : zbd (zsI 4 r i (v.toUInt32 % 65536).toInt32) g h = some (x, h1, c, s)) (kk : ∀ h', g () h' = some (x, h1, c, s) → V w mi cc L c s h' pc' ls st Q) : V w mi cc L c s h pc ls (.int v :: .int i :: va_rf r :: st) Q := by
  obtain ⟨a, h', c1, s1, c2, s2, e1, e2, rfl, rfl⟩ := zbd_ok H
  obtain ⟨b, rfl, hb, hq, hi, e1⟩ := zel_cases e1
  cases e1
  exact V_castore d hb rfl (zqw_ok hq).1 (zqw_ok hq).2 hi rfl (kk _ e2)
theorem zAs_ob {κv cT : Nat} {nm : String} (hz : zarN (zat cT) = nm) (ok : zok κv = true) (l : Cond.castable (zcl κv).1 nm ∈ lw_tbl) : ∀ s, Kn w s → zAs w s cT κv := by
  intro s hK comp hf
  refine ⟨fun _ => ?_, fun c2 e => ?_⟩
  · have h0 : va_Nw (Cond.castable (zcl κv).1 nm) s := hK.2.1 _ l rfl
    obtain ⟨c1, t1, z1, z2, z3⟩ := Cond.castable_spec h0
    have e1 : s.vm.findClass (zcl κv).1 = some (w.C κv) := (hK.2.2.1 κv ok).2.1
    rw [e1] at z1
    cases z1
    rw [hz] at hf
    rw [hf] at z2
    cases z2
    exact z3
  · have := zok_lt ok
    unfold zak at e
    rw [if_neg (by omega)] at e
    cases e
theorem zAs_ar {κv cT c2 : Nat} (hz : zat cT = .array (zat c2)) (hp : (zat c2).isReference = false) (hc : c2 < 11) (he : zak κv = some c2) : ∀ s, Kn w s → zAs w s cT κv := by
  intro s hK comp hf
  refine ⟨fun hlt => ?_, fun c3 e => ?_⟩
  · unfold zak at he
    rw [if_neg (by omega)] at he
    cases he
  · rw [he] at e
    cases e
    have h0 := (hK.2.2.2.1 c2 hc).1
    rw [hz] at hf
    have e1 : zarN (.array (zat c2)) = "[" ++ (zat c2).toString := rfl
    rw [e1, h0] at hf
    cases hf
    exact Vm.assignable_self _ _
theorem D_aastore {cT : Nat} {v : Option Nat} {g : Unit → M β} (d : Dc cc pc .aastore 1 pc') (H : zbd (zsR cT r i v) g h = some (x, h1, c, s)) (kk : ∀ h', g () h' = some (x, h1, c, s) → V w mi cc L c s h' pc' ls st Q) : V w mi cc L c s h pc ls (va_rf v :: .int i :: va_rf r :: st) Q := by
  obtain ⟨a, h', c1, s1, c2, s2, e1, e2, rfl, rfl⟩ := zbd_ok H
  obtain ⟨b, rfl, hb, hq, hi, e1⟩ := zel_cases e1
  obtain ⟨hq1, hq2⟩ := zqw_ok hq
  cases v with
  | none =>
    simp only at e1
    split at e1
    · rename_i h67
      cases e1
      exact V_aastoreN d hb rfl hq1 h67 hq2 hi rfl (kk _ e2)
    · cases e1
  | some b2 =>
    simp only at e1
    split at e1
    · rename_i hv
      cases e1
      obtain ⟨hv1, hv2⟩ := hv
      unfold zput' at hv2
      simp only [Bool.or_eq_true, Bool.and_eq_true, beq_iff_eq] at hv2
      rcases hv2 with (((hv2 | hv2) | hv2) | hv2) | hv2
      · obtain ⟨rfl, ok, hk9⟩ := hv2
        have hlt := zok_lt ok
        exact V_aastore d hb rfl hq1 hq2 hv1 rfl (by decide) hi rfl (zAs_ob rfl ok (zca6 ok)) (Or.inl hlt) (kk _ e2)
      · obtain ⟨rfl, (h26 | h26) | h26⟩ := hv2
        · exact V_aastore d hb rfl hq1 hq2 hv1 h26 (by decide) hi rfl (zAs_ob (κv := 26) rfl (by decide) zca26) (Or.inl (by decide)) (kk _ e2)
        · exact V_aastore d hb rfl hq1 hq2 hv1 h26 (by decide) hi rfl (zAs_ob (κv := 27) rfl (by decide) zca27) (Or.inl (by decide)) (kk _ e2)
        · exact V_aastore d hb rfl hq1 hq2 hv1 h26 (by decide) hi rfl (zAs_ob (κv := 28) rfl (by decide) zca28) (Or.inl (by decide)) (kk _ e2)
      · obtain ⟨rfl, he⟩ := hv2
        exact V_aastore d hb rfl hq1 hq2 hv1 rfl (by decide) hi rfl (zAs_ar (c2 := 0) rfl rfl (by decide) he) (Or.inr ⟨_, he⟩) (kk _ e2)
      · obtain ⟨rfl, he⟩ := hv2
        exact V_aastore d hb rfl hq1 hq2 hv1 rfl (by decide) hi rfl (zAs_ar (c2 := 1) rfl rfl (by decide) he) (Or.inr ⟨_, he⟩) (kk _ e2)
      · obtain ⟨rfl, he⟩ := hv2
        exact V_aastore d hb rfl hq1 hq2 hv1 rfl (by decide) hi rfl (zAs_ar (c2 := 4) rfl rfl (by decide) he) (Or.inr ⟨_, he⟩) (kk _ e2)
    · cases e1
/-! new -/
theorem D_new {k g n : Nat} {G : Option Nat → M β} (d : Dc cc pc (.new idx) 3 pc') (nl : NL mi.1.cls idx k) (hn : (zcl k).2.2 = n) (H : zbd (znw k g n) G h = some (x, h1, c, s)) (kk : ∀ v h' c s, G v h' = some (x, h1, c, s) → V w mi cc L c s h' pc' ls (va_rf v :: st) Q) : V w mi cc L c s h pc ls st Q := by
  obtain ⟨a, h', c1, s1, c2, s2, e1, e2, rfl, rfl⟩ := zbd_ok H
  unfold znw at e1
  cases e1
  exact V_new g d nl hn (kk _ _ _ _ e2)
theorem D_newarray {κ g cT : Nat} {v : Int32} {at' : ArrayType} {G : Option Nat → M β} (d : Dc cc pc (.newarray at') 2 pc') (hc : zak κ = some cT) (hm : Nat.blt κ 650 = true) (hat : newarray.typeOf at' = zat cT) (hw : Cond.arrayClass (zat cT) ∈ lw_all) (hdv : defaultValue (zat cT) = zfv (zat cT) 0 0 none) (hby : componentBytes (zat cT) ≤ 8) (H : zbd (znA κ g v) G h = some (x, h1, c, s)) (kk : ∀ v h' c s, G v h' = some (x, h1, c, s) → V w mi cc L c s h' pc' ls (va_rf v :: st) Q) : V w mi cc L c s h pc ls (.int v :: st) Q := by
  obtain ⟨a, h', c1, s1, c2, s2, e1, e2, rfl, rfl⟩ := zbd_ok H
  unfold znA at e1
  split at e1
  · rename_i hv
    cases e1
    have h9 : v.toNatClampNeg * componentBytes (zat cT) ≤ 536870912 := Nat.le_trans (Nat.mul_le_mul hv.2 hby) (by decide)
    exact V_newarray κ g d hc hm hat hw hdv hv.1 rfl h9 (kk _ _ _ _ e2)
  · cases e1
theorem zov {ty : FieldType} (hov : Cond.arrayOver ty ∈ lw_tbl) : ∀ s, Kn w s → ∀ args : Array Value, (Cond.arrayOver ty).before args s = true := fun s hK args => (show (Cond.arrayOver ty).before #[] s = true from hK.2.1 _ hov rfl)
theorem D_anewarray {κ g cT : Nat} {v : Int32} {G : Option Nat → M β} (d : Dc cc pc (.anewarray idx) 3 pc') (hc : zak κ = some cT) (hm : Nat.blt κ 650 = true) (hw : ((∃ C, zat cT = .object C ∧ Cond.classLink mi.1.cls idx C ∈ lw_all) ∨ (∃ t, zat cT = .array t ∧ Cond.classLink mi.1.cls idx (FieldType.array t).toString ∈ lw_all))) (hov : Cond.arrayOver (zat cT) ∈ lw_tbl) (H : zbd (znA κ g v) G h = some (x, h1, c, s)) (kk : ∀ v h' c s, G v h' = some (x, h1, c, s) → V w mi cc L c s h' pc' ls (va_rf v :: st) Q) : V w mi cc L c s h pc ls (.int v :: st) Q := by
  obtain ⟨a, h', c1, s1, c2, s2, e1, e2, rfl, rfl⟩ := zbd_ok H
  unfold znA at e1
  split at e1
  · rename_i hv
    cases e1
    have h9 : v.toNatClampNeg * 4 ≤ 536870912 := Nat.le_trans (Nat.mul_le_mul hv.2 (Nat.le_refl 4)) (by decide)
    exact V_anewarray κ g d hc hm hw (zov hov) hv.1 rfl h9 (kk _ _ _ _ e2)
  · cases e1
theorem D_anewarrayG {κ cT : Nat} {rg : Option Nat} {v : Int32} {G : Option Nat → M β} (d : Dc cc pc (.anewarray idx) 3 pc') (hc : zak κ = some cT) (hm : Nat.blt κ 650 = true) (hw : ((∃ C, zat cT = .object C ∧ Cond.classLink mi.1.cls idx C ∈ lw_all) ∨ (∃ t, zat cT = .array t ∧ Cond.classLink mi.1.cls idx (FieldType.array t).toString ∈ lw_all))) (hov : Cond.arrayOver (zat cT) ∈ lw_tbl) (H : zbd (znG κ rg v) G h = some (x, h1, c, s)) (kk : ∀ v h' c s, G v h' = some (x, h1, c, s) → V w mi cc L c s h' pc' ls (va_rf v :: st) Q) : V w mi cc L c s h pc ls (.int v :: st) Q :=
  D_anewarray (g := zgh h rg) d hc hm hw hov (show zbd (znA κ (zgh h rg) v) G h = some (x, h1, c, s) from H) kk
/-! casts -/
theorem D_cast {y : Nat → Bool} {G : Unit → M β} {nm : String} (d : Dc cc pc (.checkcast idx) 3 pc') (l1 : Cond.classLink mi.1.cls idx nm ∈ lw_all) (l2 : ∀ k, y k = true → zok k = true ∧ ((zcl k).1 = nm ∨ Cond.castable (zcl k).1 nm ∈ lw_tbl)) (H : zbd (zcc y r) G h = some (x, h1, c, s)) (kk : G () h = some (x, h1, c, s) → V w mi cc L c s h pc' ls (va_rf r :: st) Q) : V w mi cc L c s h pc ls (va_rf r :: st) Q := by
  obtain ⟨a, h', c1, s1, c2, s2, e1, e2, rfl, rfl⟩ := zbd_ok H
  unfold zcc at e1
  cases r with
  | none => cases e1; exact V_checkcastN d (kk e2)
  | some b =>
    simp only at e1
    split at e1
    · rename_i hb
      cases e1
      obtain ⟨q1, q2⟩ := l2 _ hb.2
      exact V_checkcast d l1 q1 q2 hb.1 rfl (kk e2)
    · cases e1
theorem D_inst {y n : Nat → Bool} {G : Int32 → M β} {nm : String} (d : Dc cc pc (.instanceof idx) 3 pc') (l1 : Cond.classLink mi.1.cls idx nm ∈ lw_all) (l2 : ∀ k, y k = true → zok k = true ∧ ((zcl k).1 = nm ∨ Cond.castable (zcl k).1 nm ∈ lw_tbl)) (l3 : ∀ k, n k = true → zok k = true ∧ ((zcl k).1, nm) ∈ zNC) (H : zbd (zio y n r) G h = some (x, h1, c, s)) (kk : ∀ v, G v h = some (x, h1, c, s) → V w mi cc L c s h pc' ls (.int v :: st) Q) : V w mi cc L c s h pc ls (va_rf r :: st) Q := by
  obtain ⟨a, h', c1, s1, c2, s2, e1, e2, rfl, rfl⟩ := zbd_ok H
  unfold zio at e1
  cases r with
  | none => cases e1; exact V_instanceofN d (kk _ e2)
  | some b =>
    simp only at e1
    split at e1
    · rename_i hb
      split at e1
      · rename_i hy
        cases e1
        obtain ⟨q1, q2⟩ := l2 _ hy
        exact V_instanceofY d l1 q1 q2 hb rfl (kk _ e2)
      · split at e1
        · rename_i hn
          cases e1
          obtain ⟨q1, q2⟩ := l3 _ hn
          exact V_instanceofNo d l1 q1 q2 hb rfl (kk _ e2)
        · cases e1
    · cases e1
/-! calls -/
theorem D_callI {m : M (Int32)} {G : Int32 → M β} {st0 : List Value} (H : zbd m G h = some (x, h1, c, s))
    (run : ∀ v h' c1 s1, m h = some (v, h', c1, s1) → ∀ cb sb, V w mi cc L cb sb h' pc' ls (.int v :: st) Q → V w mi cc L (cb + c1) (sb + s1) h pc ls st0 Q)
    (kk : ∀ v h' c2 s2, G v h' = some (x, h1, c2, s2) → V w mi cc L c2 s2 h' pc' ls (.int v :: st) Q) : V w mi cc L c s h pc ls st0 Q := by
  obtain ⟨a, h', c1, s1, c2, s2, e1, e2, rfl, rfl⟩ := zbd_ok H
  exact run _ _ _ _ e1 _ _ (kk _ _ _ _ e2)
theorem D_callL {m : M (Int64)} {G : Int64 → M β} {st0 : List Value} (H : zbd m G h = some (x, h1, c, s))
    (run : ∀ v h' c1 s1, m h = some (v, h', c1, s1) → ∀ cb sb, V w mi cc L cb sb h' pc' ls (.long v :: st) Q → V w mi cc L (cb + c1) (sb + s1) h pc ls st0 Q)
    (kk : ∀ v h' c2 s2, G v h' = some (x, h1, c2, s2) → V w mi cc L c2 s2 h' pc' ls (.long v :: st) Q) : V w mi cc L c s h pc ls st0 Q := by
  obtain ⟨a, h', c1, s1, c2, s2, e1, e2, rfl, rfl⟩ := zbd_ok H
  exact run _ _ _ _ e1 _ _ (kk _ _ _ _ e2)
theorem D_callR {m : M (Option Nat)} {G : Option Nat → M β} {st0 : List Value} (H : zbd m G h = some (x, h1, c, s))
    (run : ∀ v h' c1 s1, m h = some (v, h', c1, s1) → ∀ cb sb, V w mi cc L cb sb h' pc' ls (va_rf v :: st) Q → V w mi cc L (cb + c1) (sb + s1) h pc ls st0 Q)
    (kk : ∀ v h' c2 s2, G v h' = some (x, h1, c2, s2) → V w mi cc L c2 s2 h' pc' ls (va_rf v :: st) Q) : V w mi cc L c s h pc ls st0 Q := by
  obtain ⟨a, h', c1, s1, c2, s2, e1, e2, rfl, rfl⟩ := zbd_ok H
  exact run _ _ _ _ e1 _ _ (kk _ _ _ _ e2)
theorem D_callU {m : M (Unit)} {G : Unit → M β} {st0 : List Value} (H : zbd m G h = some (x, h1, c, s))
    (run : ∀ v h' c1 s1, m h = some (v, h', c1, s1) → ∀ cb sb, V w mi cc L cb sb h' pc' ls (st) Q → V w mi cc L (cb + c1) (sb + s1) h pc ls st0 Q)
    (kk : ∀ v h' c2 s2, G v h' = some (x, h1, c2, s2) → V w mi cc L c2 s2 h' pc' ls (st) Q) : V w mi cc L c s h pc ls st0 Q := by
  obtain ⟨a, h', c1, s1, c2, s2, e1, e2, rfl, rfl⟩ := zbd_ok H
  exact run _ _ _ _ e1 _ _ (kk _ _ _ _ e2)
/-! divisions -/
theorem zgd_ok {p : Prop} [Decidable p] {G : Unit → M β} (H : zbd (zgd p) G h = some (x, h1, c, s)) : p ∧ G () h = some (x, h1, c, s) := by
  obtain ⟨a, h', c1, s1, c2, s2, e1, e2, rfl, rfl⟩ := zbd_ok H
  unfold zgd at e1
  split at e1
  · rename_i q; cases e1; exact ⟨q, e2⟩
  · cases e1
end
theorem kOI {w : Wd} {mi : Mi} {cc : ByteArray} {L cb sb : Nat} {h : Hp} {pc : Nat} {ls : List (Option Value)} {st : List Value} {Q : Outcome → Hp → Prop} {x : Int32} (k : V w mi cc L cb sb h pc ls (.int x :: st) Q) : ∀ v h', Ro (oI x) h (.returned v) h' → V w mi cc L cb sb h' pc ls (v.toList ++ st) Q := fun v h' q => by
  obtain ⟨q1, rfl⟩ := q; cases q1; exact k
theorem kOL {w : Wd} {mi : Mi} {cc : ByteArray} {L cb sb : Nat} {h : Hp} {pc : Nat} {ls : List (Option Value)} {st : List Value} {Q : Outcome → Hp → Prop} {x : Int64} (k : V w mi cc L cb sb h pc ls (.long x :: st) Q) : ∀ v h', Ro (oL x) h (.returned v) h' → V w mi cc L cb sb h' pc ls (v.toList ++ st) Q := fun v h' q => by
  obtain ⟨q1, rfl⟩ := q; cases q1; exact k
theorem kOR {w : Wd} {mi : Mi} {cc : ByteArray} {L cb sb : Nat} {h : Hp} {pc : Nat} {ls : List (Option Value)} {st : List Value} {Q : Outcome → Hp → Prop} {x : Option Nat} (k : V w mi cc L cb sb h pc ls (va_rf x :: st) Q) : ∀ v h', Ro (oR x) h (.returned v) h' → V w mi cc L cb sb h' pc ls (v.toList ++ st) Q := fun v h' q => by
  obtain ⟨q1, rfl⟩ := q; cases q1; exact k
theorem kOU {w : Wd} {mi : Mi} {cc : ByteArray} {L cb sb : Nat} {h : Hp} {pc : Nat} {ls : List (Option Value)} {st : List Value} {Q : Outcome → Hp → Prop} {x : Unit} (k : V w mi cc L cb sb h pc ls st Q) : ∀ v h', Ro (oU x) h (.returned v) h' → V w mi cc L cb sb h' pc ls (v.toList ++ st) Q := fun v h' q => by
  obtain ⟨q1, rfl⟩ := q; cases q1; exact k
