/-! PURE: how the decompiled operations answer where all is well -/
section Q
variable {α β : Type} {f : Nat → Option Nat} {h : Hp} {a j : Nat}
theorem q_gI {G : Int32 → M β} (ha : a < hZ h) (hf : f (zkd (hT h a)) = some j) : zbd (zgI f (some a)) G h = G (hI h a j) h :=
  zbd_pure (by unfold zgI; rw [zob_eq ha hf])
theorem q_gL {G : Int64 → M β} (ha : a < hZ h) (hf : f (zkd (hT h a)) = some j) : zbd (zgL f (some a)) G h = G (hL h a j) h :=
  zbd_pure (by unfold zgL; rw [zob_eq ha hf])
theorem q_gR {G : Option Nat → M β} (ha : a < hZ h) (hf : f (zkd (hT h a)) = some j) : zbd (zgR f (some a)) G h = G (hR h a j) h :=
  zbd_pure (by unfold zgR; rw [zob_eq ha hf])
theorem zbd_0 {m : M α} {G : α → M β} {a : α} {h' : Hp} (e : m h = some (a, h', 0, 0)) : zbd m G h = G a h' := by
  rw [zbd_eq e]
  cases G a h' with
  | none => rfl
  | some q => rfl
theorem q_pI {v : Int32} {G : Unit → M β} (ha : a < hZ h) (hf : f (zkd (hT h a)) = some j) : zbd (zpI f (some a) v) G h = G () (wI h a (va_up (hI h a) j v)) :=
  zbd_0 (by unfold zpI; rw [zob_eq ha hf])
theorem q_pZ {v : Int32} {G : Unit → M β} (ha : a < hZ h) (hf : f (zkd (hT h a)) = some j) (hv : v = 0 ∨ v = 1) : zbd (zpZ f (some a) v) G h = G () (wI h a (va_up (hI h a) j v)) :=
  zbd_0 (by unfold zpZ; rw [if_pos hv]; unfold zpI; rw [zob_eq ha hf])
theorem q_pL {v : Int64} {G : Unit → M β} (ha : a < hZ h) (hf : f (zkd (hT h a)) = some j) : zbd (zpL f (some a) v) G h = G () (wL h a (va_up (hL h a) j v)) :=
  zbd_0 (by unfold zpL; rw [zob_eq ha hf])
theorem q_pR {v : Option Nat} {G : Unit → M β} (ha : a < hZ h) (hf : f (zkd (hT h a)) = some j) : zbd (zpR f (some a) v) G h = G () (wR h a (va_up (hR h a) j v)) :=
  zbd_0 (by unfold zpR; rw [zob_eq ha hf])
theorem q_aI {c : Nat} {i : Int32} {G : Int32 → M β} (ha : a < hZ h) (hk : zqr c (zkd (hT h a)) = true) (hi : ¬ i < 0) (hn : i.toNatClampNeg < hN h a) : zbd (zaI c (some a) i) G h = G (hI h a i.toNatClampNeg) h :=
  zbd_pure (by unfold zaI; rw [zel_eq ha hk hi hn])
theorem q_aL {i : Int32} {G : Int64 → M β} (ha : a < hZ h) (hk : zqr 1 (zkd (hT h a)) = true) (hi : ¬ i < 0) (hn : i.toNatClampNeg < hN h a) : zbd (zaL (some a) i) G h = G (hL h a i.toNatClampNeg) h :=
  zbd_pure (by unfold zaL; rw [zel_eq ha hk hi hn])
theorem q_aR {i : Int32} {G : Option Nat → M β} (ha : a < hZ h) (hk : zqR (zkd (hT h a)) = true) (hi : ¬ i < 0) (hn : i.toNatClampNeg < hN h a) : zbd (zaR (some a) i) G h = G (hR h a i.toNatClampNeg) h :=
  zbd_pure (by unfold zaR; rw [zel_eq ha hk hi hn])
theorem q_sI {c : Nat} {i v : Int32} {G : Unit → M β} (ha : a < hZ h) (hk : zqw c (zkd (hT h a)) = true) (hi : ¬ i < 0) (hn : i.toNatClampNeg < hN h a) : zbd (zsI c (some a) i v) G h = G () (wI h a (va_up (hI h a) i.toNatClampNeg v)) :=
  zbd_0 (by unfold zsI; rw [zel_eq ha hk hi hn])
theorem q_sZ {i v : Int32} {G : Unit → M β} (hv : v = 0 ∨ v = 1) (ha : a < hZ h) (hk : zqw 5 (zkd (hT h a)) = true) (hi : ¬ i < 0) (hn : i.toNatClampNeg < hN h a) : zbd (zsZ (some a) i v) G h = G () (wI h a (va_up (hI h a) i.toNatClampNeg v)) :=
  zbd_0 (by unfold zsZ; rw [if_pos hv]; unfold zsI; rw [zel_eq ha hk hi hn])
theorem q_sL {i : Int32} {v : Int64} {G : Unit → M β} (ha : a < hZ h) (hk : zqw 1 (zkd (hT h a)) = true) (hi : ¬ i < 0) (hn : i.toNatClampNeg < hN h a) : zbd (zsL (some a) i v) G h = G () (wL h a (va_up (hL h a) i.toNatClampNeg v)) :=
  zbd_0 (by unfold zsL; rw [zel_eq ha hk hi hn])
theorem q_sR {c b : Nat} {i : Int32} {G : Unit → M β} (ha : a < hZ h) (hk : zqw c (zkd (hT h a)) = true) (hi : ¬ i < 0) (hn : i.toNatClampNeg < hN h a) (hb : b < hZ h) (hp : zput' c (zkd (hT h b)) = true) : zbd (zsR c (some a) i (some b)) G h = G () (wR h a (va_up (hR h a) i.toNatClampNeg (some b))) :=
  zbd_0 (by unfold zsR; rw [zel_eq ha hk hi hn]; simp only; rw [if_pos ⟨hb, hp⟩])
theorem q_sRn {c : Nat} {i : Int32} {G : Unit → M β} (ha : a < hZ h) (hk : zqw c (zkd (hT h a)) = true) (hi : ¬ i < 0) (hn : i.toNatClampNeg < hN h a) (hc : c = 6 ∨ c = 7) : zbd (zsR c (some a) i none) G h = G () (wR h a (va_up (hR h a) i.toNatClampNeg none)) :=
  zbd_0 (by unfold zsR; rw [zel_eq ha hk hi hn]; simp only; rw [if_pos hc])
theorem q_al {G : Int32 → M β} (ha : a < hZ h) (hk : (zak (zkd (hT h a))).isSome = true) : zbd (zal (some a)) G h = G (nI (hN h a)) h :=
  zbd_pure (by unfold zal; simp only; rw [if_pos ⟨ha, hk⟩])
theorem q_v1 {k : Nat} {F : Nat → M α} {G : α → M β} (ha : a < hZ h) (hk : zkd (hT h a) = k) : zbd (zv1 k (some a) F) G h = zbd (F a) G h := by
  unfold zbd zv1; simp only; rw [if_pos ⟨ha, hk⟩]
theorem q_v0 {F : Nat → M α} {G : α → M β} (ha : a < hZ h) (hk : zok (zkd (hT h a)) = true) : zbd (zv0 (some a) F) G h = zbd (F a) G h := by
  unfold zbd zv0; simp only; rw [if_pos ⟨ha, hk⟩]
theorem q_vn {t : Nat → Option (Nat → M α)} {F : Nat → M α} {G : α → M β} (ha : a < hZ h) (hk : t (zkd (hT h a)) = some F) : zbd (zvn t (some a)) G h = zbd (F a) G h := by
  unfold zbd zvn; simp only; rw [if_pos ha, hk]
theorem q_nn {F : Nat → M α} {G : α → M β} : zbd (znn (some a) F) G h = zbd (F a) G h := rfl
theorem q_cc {y : Nat → Bool} {G : Unit → M β} (ha : a < hZ h) (hk : y (zkd (hT h a)) = true) : zbd (zcc y (some a)) G h = G () h :=
  zbd_pure (by unfold zcc; simp only; rw [if_pos ⟨ha, hk⟩])
theorem q_cn {y : Nat → Bool} {G : Unit → M β} : zbd (zcc y none) G h = G () h := zbd_pure rfl
theorem q_ioY {y n : Nat → Bool} {G : Int32 → M β} (ha : a < hZ h) (hk : y (zkd (hT h a)) = true) : zbd (zio y n (some a)) G h = G 1 h :=
  zbd_pure (by unfold zio; simp only; rw [if_pos ha, if_pos hk])
theorem q_ioN {y n : Nat → Bool} {G : Int32 → M β} (ha : a < hZ h) (hk : y (zkd (hT h a)) = false) (hn : n (zkd (hT h a)) = true) : zbd (zio y n (some a)) G h = G 0 h :=
  zbd_pure (by unfold zio; simp only; rw [if_pos ha, if_neg (by rw [hk]; decide), if_pos hn])
theorem q_io0 {y n : Nat → Bool} {G : Int32 → M β} : zbd (zio y n none) G h = G 0 h := zbd_pure rfl
theorem q_gd {p : Prop} [Decidable p] {G : Unit → M β} (hp : p) : zbd (zgd p) G h = G () h := zbd_pure (by unfold zgd; rw [if_pos hp])
theorem q_t {p : Prop} [Decidable p] {A B : M β} (hp : p) : zif p A B h = A h := by unfold zif; rw [if_pos hp]
theorem q_f {p : Prop} [Decidable p] {A B : M β} (hp : ¬ p) : zif p A B h = B h := by unfold zif; rw [if_neg hp]
theorem q_rt {x : α} {G : α → M β} : zbd (zrt x) G h = G x h := zbd_pure rfl
theorem q_as {γ : Type} {m : M α} {f1 : α → M β} {g1 : β → M γ} : zbd (zbd m f1) g1 h = zbd m (fun a => zbd (f1 a) g1) h := by
  unfold zbd
  cases m h with
  | none => rfl
  | some q =>
    obtain ⟨b, h1, c1, s1⟩ := q
    simp only
    cases f1 b h1 with
    | none => rfl
    | some q2 =>
      obtain ⟨b2, h2, c2, s2⟩ := q2
      simp only
      cases g1 b2 h2 with
      | none => rfl
      | some q3 =>
        obtain ⟨b3, h3, c3, s3⟩ := q3
        simp only [Nat.add_assoc]
theorem q_if2 {p : Prop} [Decidable p] {A B : M α} {G : α → M β} : zbd (zif p A B) G h = zif p (zbd A G) (zbd B G) h := by
  unfold zif zbd
  by_cases hp : p
  · simp only [if_pos hp]
  · simp only [if_neg hp]
end Q
