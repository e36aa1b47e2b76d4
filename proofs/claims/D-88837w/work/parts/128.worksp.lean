theorem zfold_inv {α : Type} {f : Nat → α → α} {P : Nat → α → Prop} {n : Nat} {a : α} (h0 : P 0 a) (h : ∀ i, i < n → ∀ q, P i q → P (i + 1) (f i q)) : P n (zfold f n a) := by
  induction n with
  | zero => exact h0
  | succ n ih => exact h n (by omega) _ (ih (fun i hi => h i (by omega)))
theorem zwh_end {α : Type} {K : α → Option α} {P : α → Prop} {μ : α → Nat} (h : ∀ q r, P q → K q = some r → P r ∧ μ r < μ q) : ∀ n q, P q → μ q ≤ n → P (zwh K n q) ∧ K (zwh K n q) = none
  | 0, q, hp, hm => by
    refine ⟨hp, ?_⟩
    cases hk : K q with
    | none => exact hk
    | some r => have := (h q r hp hk).2; omega
  | n + 1, q, hp, hm => by
    cases hk : K q with
    | none => rw [zwh_n hk]; exact ⟨hp, hk⟩
    | some r =>
      obtain ⟨h1, h2⟩ := h q r hp hk
      rw [zwh_s hk]
      exact zwh_end h n r h1 (by omega)
/-! the land: heights, sorts -/
def Ih (S : Nat → Int32) : Prop := ∀ c, c < 80 → ∃ k, S (20 + c) = nI k ∧ k ≤ 99
theorem zsz_sub {p q : Nat} (hp : p < 2 ^ 30) (hq : q < 2 ^ 30) : zsz (nI p - nI q) = nI (if p ≤ q then q - p else p - q) := by
  unfold zsz
  split
  · next h =>
    have := znneg hp h
    rw [if_pos (by omega)]
    have e : -(nI p - nI q) = nI q - nI p := by grind
    rw [e, pk_sub (by omega)]
  · next h =>
    have := zneg hp h hq
    rw [pk_sub this]
    by_cases e : p ≤ q
    · rw [if_pos e]; congr 1; omega
    · rw [if_neg e]
def wN (S : Nat → Int32) (a b : Nat) : Nat := if a < 80 ∧ b < 80 then min 327 (zstep S a b).toNatClampNeg else 10
theorem zstep_n {S : Nat → Int32} (h : Ih S) {a b : Nat} (ha : a < 80) (hb : b < 80) : zstep S a b = nI (wN S a b) ∧ 10 ≤ wN S a b ∧ wN S a b ≤ 327 := by
  obtain ⟨p, hp, hp9⟩ := h a ha
  obtain ⟨q, hq, hq9⟩ := h b hb
  have e : ∃ v, zstep S a b = nI v ∧ 10 ≤ v ∧ v ≤ 327 := by
    unfold zstep
    rw [hp, hq, zsz_sub (by omega) (by omega)]
    have h3 : (10 : Int32) + 3 * nI (if p ≤ q then q - p else p - q) = nI (10 + 3 * (if p ≤ q then q - p else p - q)) := zadd rfl (zmul rfl rfl)
    rw [h3]
    have h4 : (if p ≤ q then q - p else p - q) ≤ 99 := by split <;> omega
    clear h3
    generalize (if p ≤ q then q - p else p - q) = g at h4 ⊢
    split
    · exact ⟨_, zadd rfl (b := 20) rfl, by omega, by omega⟩
    · split
      · exact ⟨_, zadd rfl (b := 5) rfl, by omega, by omega⟩
      · exact ⟨_, zadd rfl (b := 0) rfl, by omega, by omega⟩
  obtain ⟨v, h1, h2, h3⟩ := e
  have h5 : wN S a b = v := by
    unfold wN
    rw [if_pos ⟨ha, hb⟩, h1, nI_clamp (by omega)]
    omega
  rw [h5]
  exact ⟨h1, h2, h3⟩
theorem wN_le (S : Nat → Int32) (a b : Nat) : wN S a b ≤ 327 := by unfold wN; split <;> omega
def eM (S : Nat → Int32) (fr to d : Int32) (a b : Nat) : Prop := ¬ o_canStep S a b fr to d = 0
def lvM (L : Nat → Int32) (c : Nat) : Option Nat := if c < 80 ∧ ¬ L c = -1 then some (sn L c) else none
def wkJ (S : Nat → Int32) (fr to d : Int32) (L : Nat → Int32) : Prop :=
  Ih S ∧ (to = nI to.toNatClampNeg ∧ to.toNatClampNeg < 80) ∧ (∀ c, c < 80 → L c = -1 ∨ L c = nI (sn L c)) ∧ aSt (eM S fr to d) (wN S) (aX0 to.toNatClampNeg) (lvM L)
section WK
variable {S : Nat → Int32} {fr to d : Int32} {L : Nat → Int32}
theorem lvM_some {c v : Nat} (h : lvM L c = some v) : c < 80 ∧ ¬ L c = -1 ∧ sn L c = v := by
  unfold lvM at h
  split at h
  · next q => cases h; exact ⟨q.1, q.2, rfl⟩
  · cases h
theorem lvM_of {c : Nat} (hc : c < 80) (h : ¬ L c = -1) : lvM L c = some (sn L c) := by unfold lvM; rw [if_pos ⟨hc, h⟩]
theorem lvM_no {c : Nat} (h : L c = -1) : lvM L c = none := by unfold lvM; rw [if_neg (fun q => q.2 h)]
theorem wkJ.bd (j : wkJ S fr to d L) {c : Nat} (hc : c < 80) (h : ¬ L c = -1) : L c = nI (sn L c) ∧ sn L c ≤ 26160 := by
  refine ⟨(j.2.2.1 c hc).resolve_left h, ?_⟩
  exact a_bd2 (W := 327) (wN_le S) j.2.2.2 j.2.1.2 (lvM_of hc h)
theorem wkJ.bd2 (j : wkJ S fr to d L) : ∀ c v, lvM L c = some v → v < 100000 := fun c v h => by
  have := a_bd2 (W := 327) (wN_le S) j.2.2.2 j.2.1.2 h
  omega
/-- a relaxation of the model -/
theorem wkJ.rlx (j : wkJ S fr to d L) {a b : Nat} (ha : a < 80) (hb : b < 80) (he : eM S fr to d a b) (hb1 : ¬ L b = -1) (hx : L a = -1 ∨ zstep S a b + L b < L a) :
    aR (eM S fr to d) (wN S) (lvM L) (lvM (va_up L a (zstep S a b + L b))) ∧ wkJ S fr to d (va_up L a (zstep S a b + L b)) := by
  obtain ⟨h1, h2, h3⟩ := zstep_n j.1 ha hb
  obtain ⟨g1, g2⟩ := j.bd hb hb1
  have hv : zstep S a b + L b = nI (wN S a b + sn L b) := zadd h1 g1
  have hne : ¬ nI (wN S a b + sn L b) = -1 := nIneg (by omega)
  have hr : aR (eM S fr to d) (wN S) (lvM L) (lvM (va_up L a (zstep S a b + L b))) := by
    refine ⟨a, b, sn L b, ha, hb, he, lvM_of hb hb1, ?_, ?_⟩
    · rcases hx with hx | hx
      · exact Or.inl (lvM_no hx)
      · by_cases hm : L a = -1
        · exact Or.inl (lvM_no hm)
        · obtain ⟨k1, k2⟩ := j.bd ha hm
          refine Or.inr ⟨sn L a, lvM_of ha hm, ?_⟩
          rw [hv, k1] at hx
          exact nlt hx (by omega) (by omega)
    · funext c
      by_cases hca : c = a
      · subst hca
        rw [va_up_self]
        unfold lvM sn
        rw [va_up_self, hv, if_pos ⟨ha, hne⟩, nI_clamp (by omega)]
        rfl
      · rw [va_up_ne _ _ hca]
        unfold lvM sn
        rw [va_up_ne _ _ hca]
  refine ⟨hr, j.1, j.2.1, fun c hc => ?_, j.2.2.2.step hr⟩
  by_cases hca : c = a
  · subst hca
    right
    unfold sn
    rw [va_up_self, hv, nI_clamp (by omega)]
  · unfold sn
    rw [va_up_ne _ _ hca]
    exact j.2.2.1 c hc
/-- what a try does -/
theorem D_cases (a : Nat) (q : Int32 × (Nat → Int32)) (bx : Int32) :
    ((D_works_101 S a fr to d q bx).2 = q.2 ∧ ((D_works_101 S a fr to d q bx).1 = 0 ↔ q.1 = 0) ∧ ∀ b, bx = nI b → b < 80 → eM S fr to d a b → ¬ q.2 b = -1 → ¬ q.2 a = -1 ∧ q.2 a ≤ zstep S a b + q.2 b) ∨
    (¬ (D_works_101 S a fr to d q bx).1 = 0 ∧ ∃ b, b < 80 ∧ eM S fr to d a b ∧ ¬ q.2 b = -1 ∧ (q.2 a = -1 ∨ zstep S a b + q.2 b < q.2 a) ∧ (D_works_101 S a fr to d q bx).2 = va_up q.2 a (zstep S a b + q.2 b)) := by
  simp only [D_works_101]
  split
  · next h =>
    refine Or.inl ⟨rfl, Iff.rfl, fun b hb hb8 => ?_⟩
    subst hb
    exact absurd h (zin_n0.mpr ⟨nI_pos' (by omega), show nI b ≤ nI 79 from (nI_leI (by omega) (by omega)).mpr (by omega)⟩)
  · next h =>
    obtain ⟨b, hb, rfl⟩ := zinN (m := 79) h rfl (by decide)
    have hbc : (nI b).toNatClampNeg = b := nI_clamp (by omega)
    have inj : ∀ b', nI b = nI b' → b' < 80 → b' = b := fun b' e h8 => (neq e (by omega) (by omega)).symm
    rw [hbc]
    split
    · next h2 =>
      refine Or.inl ⟨rfl, Iff.rfl, fun b' e h8 _ hn => ?_⟩
      rw [inj b' e h8] at hn
      exact absurd h2 hn
    · next h2 =>
      split
      · next h3 =>
        refine Or.inl ⟨rfl, Iff.rfl, fun b' e h8 he => ?_⟩
        rw [inj b' e h8] at he
        exact absurd h3 he
      · next h3 =>
        split
        · next h4 =>
          refine Or.inr ⟨?_, b, by omega, h3, h2, Or.inl h4, ?_⟩
          · split <;> (intro q; exact absurd (show (1 : Int32) = 0 from q) (by decide))
          · split <;> rfl
        · next h4 =>
          split
          · next h5 =>
            refine Or.inl ⟨?_, ?_, fun b' e h8 _ _ => ?_⟩
            · split <;> exact va_up_id _ _
            · split
              · next h6 => exact ⟨fun _ => h6, fun _ => rfl⟩
              · next h6 => exact ⟨fun q => absurd (show (1 : Int32) = 0 from q) (by decide), fun q => absurd q h6⟩
            · rw [inj b' e h8]; exact ⟨h4, h5⟩
          · next h5 =>
            refine Or.inr ⟨?_, b, by omega, h3, h2, Or.inr (zle_nlt.mp h5), ?_⟩
            · split <;> (intro q; exact absurd (show (1 : Int32) = 0 from q) (by decide))
            · split <;> rfl
/-- what holds all through a round, begun at L0 -/
def Gd (S : Nat → Int32) (fr to d : Int32) (L0 : Nat → Int32) (N : Nat → Nat → Prop) (q : Int32 × (Nat → Int32)) : Prop :=
  wkJ S fr to d q.2 ∧ (q.1 = 0 → q.2 = L0 ∧ ∀ a b, N a b → a < 80 → b < 80 → eM S fr to d a b → ¬ L0 b = -1 → ¬ L0 a = -1 ∧ L0 a ≤ zstep S a b + L0 b) ∧ (¬ q.1 = 0 → asm (lvM q.2) < asm (lvM L0))
theorem Gd_step {L0 : Nat → Int32} {N N' : Nat → Nat → Prop} {q : Int32 × (Nat → Int32)} {a : Nat} {bx : Int32} (ha : a < 80) (h : Gd S fr to d L0 N q) (hN : ∀ x y, N' x y → N x y ∨ (x = a ∧ bx = nI y)) : Gd S fr to d L0 N' (D_works_101 S a fr to d q bx) := by
  obtain ⟨h1, h2, h3⟩ := h
  rcases D_cases (S := S) (fr := fr) (to := to) (d := d) a q bx with ⟨e1, e2, e3⟩ | ⟨e1, b, hb, he, hb1, hx, e2⟩
  · refine ⟨by rw [e1]; exact h1, fun hz => ?_, fun hz => ?_⟩
    · have hq := e2.mp hz
      obtain ⟨k1, k2⟩ := h2 hq
      refine ⟨by rw [e1]; exact k1, fun x y hxy hx hy hxe hy1 => ?_⟩
      rcases hN x y hxy with r | ⟨r1, r2⟩
      · exact k2 x y r hx hy hxe hy1
      · subst r1
        rw [← k1] at hy1 ⊢
        exact e3 y r2 hy hxe hy1
    · rw [e1]
      exact h3 (fun q => hz (e2.mpr q))
  · obtain ⟨r1, r2⟩ := h1.rlx ha hb he hb1 hx
    have hs := a_sum h1.bd2 r1 r2.bd2
    refine ⟨by rw [e2]; exact r2, fun hz => absurd hz e1, fun _ => ?_⟩
    rw [e2]
    by_cases hq : q.1 = 0
    · rw [← (h2 hq).1]
      exact hs
    · have := h3 hq
      omega
theorem bes4 : ∀ a, a < 80 → ∀ b, b < 80 → zbes (nI a) (nI b) = true → b = a + 1 ∨ a = b + 1 ∨ b = a + 10 ∨ a = b + 10 := by decide +kernel
theorem eM_bes {a b : Nat} (h : eM S fr to d a b) : zbes (nI a) (nI b) = true := by
  unfold eM o_canStep at h
  by_cases hz : bI (zbes (nI a) (nI b)) = 0
  · exfalso
    apply h
    simp only [if_pos hz]
    repeat' split
    all_goals rfl
  · exact bI_n0.mp hz
theorem nIm {a b k : Nat} (h : a = b + k) {z : Int32} (hz : z = -(nI k)) : nI a + z = nI b := by
  rw [h, hz, ← nI_add]; grind
theorem wk_k {L0 : Nat → Int32} {a : Nat} (ha : a < 80) (k : Nat) (hk : k < 4) (r : Int32 × (Nat → Int32)) (hr : Gd S fr to d L0 (fun x y => x < a ∨ (x = a ∧ ((0 < k ∧ y = a + 1) ∨ (1 < k ∧ a = y + 1) ∨ (2 < k ∧ y = a + 10) ∨ (3 < k ∧ a = y + 10)))) r) :
    Gd S fr to d L0 (fun x y => x < a ∨ (x = a ∧ ((0 < k + 1 ∧ y = a + 1) ∨ (1 < k + 1 ∧ a = y + 1) ∨ (2 < k + 1 ∧ y = a + 10) ∨ (3 < k + 1 ∧ a = y + 10)))) (K_works_58 S a fr to d k r) := by
  unfold K_works_58
  rcases (show k = 0 ∨ k = 1 ∨ k = 2 ∨ k = 3 by omega) with rfl | rfl | rfl | rfl
  · rw [if_pos (by decide)]
    refine Gd_step ha hr (fun x y hxy => ?_)
    rcases hxy with r | ⟨rfl, r⟩
    · exact Or.inl (Or.inl r)
    · rcases (show y = x + 1 by omega) with rfl
      exact Or.inr ⟨rfl, zadd rfl rfl⟩
  · rw [if_neg (by decide), if_pos (by decide)]
    refine Gd_step ha hr (fun x y hxy => ?_)
    rcases hxy with r | ⟨rfl, r⟩
    · exact Or.inl (Or.inl r)
    · rcases (show y = x + 1 ∨ x = y + 1 by omega) with r | r
      · exact Or.inl (Or.inr ⟨rfl, Or.inl ⟨by omega, r⟩⟩)
      · exact Or.inr ⟨rfl, nIm r (by decide)⟩
  · rw [if_neg (by decide), if_neg (by decide), if_pos (by decide)]
    refine Gd_step ha hr (fun x y hxy => ?_)
    rcases hxy with r | ⟨rfl, r⟩
    · exact Or.inl (Or.inl r)
    · rcases (show y = x + 1 ∨ x = y + 1 ∨ y = x + 10 by omega) with r | r | r
      · exact Or.inl (Or.inr ⟨rfl, Or.inl ⟨by omega, r⟩⟩)
      · exact Or.inl (Or.inr ⟨rfl, Or.inr (Or.inl ⟨by omega, r⟩)⟩)
      · exact Or.inr ⟨rfl, by rw [r]; exact zadd rfl rfl⟩
  · rw [if_neg (by decide), if_neg (by decide), if_neg (by decide)]
    refine Gd_step ha hr (fun x y hxy => ?_)
    rcases hxy with r | ⟨rfl, r⟩
    · exact Or.inl (Or.inl r)
    · rcases (show y = x + 1 ∨ x = y + 1 ∨ y = x + 10 ∨ x = y + 10 by omega) with r | r | r | r
      · exact Or.inl (Or.inr ⟨rfl, Or.inl ⟨by omega, r⟩⟩)
      · exact Or.inl (Or.inr ⟨rfl, Or.inr (Or.inl ⟨by omega, r⟩)⟩)
      · exact Or.inl (Or.inr ⟨rfl, Or.inr (Or.inr (Or.inl ⟨by omega, r⟩))⟩)
      · exact Or.inr ⟨rfl, nIm r (by decide)⟩
theorem wk_ks {L0 : Nat → Int32} {a : Nat} (ha : a < 80) (r : Int32 × (Nat → Int32)) (n : Nat) (hn : n ≤ 4) (hr : Gd S fr to d L0 (fun x _ => x < a) r) :
    Gd S fr to d L0 (fun x y => x < a ∨ (x = a ∧ ((0 < n ∧ y = a + 1) ∨ (1 < n ∧ a = y + 1) ∨ (2 < n ∧ y = a + 10) ∨ (3 < n ∧ a = y + 10)))) (zfold (K_works_58 S a fr to d) n r) := by
  induction n with
  | zero =>
    refine ⟨hr.1, fun z => ⟨(hr.2.1 z).1, fun x y hxy => (hr.2.1 z).2 x y ?_⟩, hr.2.2⟩
    rcases hxy with r | ⟨-, r⟩
    · exact r
    · omega
  | succ n ih => exact wk_k ha n (by omega) _ (ih (by omega))
theorem zpe {α β : Type} (p : α × β) : (p.1, p.2) = p := rfl
theorem K48_eq (a : Nat) (q : Int32 × (Nat → Int32)) : K_works_48 S fr to d a q = zfold (K_works_58 S a fr to d) 4 q := by
  unfold K_works_48
  rw [zpe, zpe]
theorem wk_a {L0 : Nat → Int32} {a : Nat} (ha : a < 80) (q : Int32 × (Nat → Int32)) (hq : Gd S fr to d L0 (fun x _ => x < a) q) : Gd S fr to d L0 (fun x _ => x < a + 1) (K_works_48 S fr to d a q) := by
  have hi := wk_ks (S := S) (fr := fr) (to := to) (d := d) ha q 4 (Nat.le_refl _) hq
  rw [← K48_eq] at hi
  generalize K_works_48 S fr to d a q = r at hi ⊢
  refine ⟨hi.1, fun z => ⟨(hi.2.1 z).1, fun x y hxy hx hy he => ?_⟩, hi.2.2⟩
  rcases (show x < a ∨ x = a by omega) with r | r
  · exact (hi.2.1 z).2 x y (Or.inl r) hx hy he
  · subst r
    have := bes4 x hx y hy (eM_bes he)
    exact (hi.2.1 z).2 x y (Or.inr ⟨rfl, by omega⟩) hx hy he
theorem wk_as {L0 : Nat → Int32} (n : Nat) (hn : n ≤ 80) (q : Int32 × (Nat → Int32)) (hq : Gd S fr to d L0 (fun x _ => x < 0) q) : Gd S fr to d L0 (fun x _ => x < n) (zfold (K_works_48 S fr to d) n q) := by
  induction n with
  | zero => exact hq
  | succ n ih => exact wk_a (by omega) _ (ih (by omega))
/-- a whole round -/
theorem wk_round {L0 : Nat → Int32} (h : wkJ S fr to d L0) {z : Int32 × (Nat → Int32)} (hz : z = zfold (K_works_48 S fr to d) 80 (0, L0)) : Gd S fr to d L0 (fun _ _ => True) z := by
  have h0 : Gd S fr to d L0 (fun x _ => x < 0) ((0 : Int32), L0) := ⟨h, fun _ => ⟨rfl, fun a b q => absurd q (by omega)⟩, fun q => absurd rfl q⟩
  have hm := wk_as 80 (Nat.le_refl _) _ h0
  rw [← hz] at hm
  exact ⟨hm.1, fun z => ⟨(hm.2.1 z).1, fun x y _ hx => (hm.2.1 z).2 x y hx hx⟩, hm.2.2⟩
def wkJ2 (S : Nat → Int32) (fr to d : Int32) (q : Int32 × (Nat → Int32)) : Prop := wkJ S fr to d q.2 ∧ (q.1 = 0 → aSb (eM S fr to d) (wN S) (lvM q.2))
def wkM (q : Int32 × (Nat → Int32)) : Nat := (if q.1 = 0 then 0 else 1) + asm (lvM q.2)
theorem wkJ2_0 {L : Nat → Int32} (h : wkJ S fr to d L) : wkJ2 S fr to d (1, L) := ⟨h, fun q => absurd (show (1 : Int32) = 0 from q) (by decide)⟩
theorem wkM_0 {L : Nat → Int32} (h : wkJ S fr to d L) : wkM ((1 : Int32), L) ≤ zBIG := by
  have := asm_le h.bd2
  have e : (if ((1 : Int32), L).1 = 0 then 0 else 1) = 1 := if_neg (show ¬ (1 : Int32) = 0 by decide)
  unfold wkM
  rw [e]
  show 1 + asm (lvM L) ≤ 100000000
  omega
theorem wk_K {q r : Int32 × (Nat → Int32)} (h : wkJ2 S fr to d q) (hK : K_works_37 S fr to d q = some r) : wkJ2 S fr to d r ∧ wkM r < wkM q := by
  simp only [K_works_37] at hK
  split at hK
  · cases hK
  · next hq =>
    have hr := Option.some.inj hK
    obtain ⟨g1, g2, g3⟩ := wk_round h.1 (z := r) (by rw [← hr])
    refine ⟨⟨g1, fun hz a b v ha hb he hv => ?_⟩, ?_⟩
    · obtain ⟨k1, k2⟩ := g2 hz
      obtain ⟨l1, l2, l3⟩ := lvM_some hv
      rw [k1] at l2 l3
      obtain ⟨m1, m2⟩ := k2 a b trivial ha hb he l2
      have j := h.1
      obtain ⟨n1, n2⟩ := j.bd ha m1
      obtain ⟨p1, p2⟩ := j.bd hb l2
      obtain ⟨s1, s2, s3⟩ := zstep_n j.1 ha hb
      rw [n1, zadd s1 p1] at m2
      refine ⟨sn q.2 a, by rw [k1]; exact lvM_of ha m1, ?_⟩
      rw [← l3]
      exact nle m2 (by omega) (by omega)
    · unfold wkM
      rw [if_neg hq]
      by_cases hz : r.1 = 0
      · rw [if_pos hz, (g2 hz).1]
        omega
      · rw [if_neg hz]
        have := g3 hz
        omega
theorem wk_start {A9 : Nat → Int32} (hI : Ih S) {t : Nat} (ht : to = nI t) (ht8 : t < 80) : wkJ S fr to d (zfold (K_works_3 to) 80 A9) := by
  have h1 : ∀ n, n ≤ 80 → ∀ c, c < n → zfold (K_works_3 to) n A9 c = if c = t then 0 else -1 := by
    intro n
    induction n with
    | zero => intro _ c hc; omega
    | succ n ih =>
      intro hn c hc
      rw [zfold_s]
      simp only [K_works_3]
      have hv : ∀ x : Int32, c ≠ n → va_up (zfold (K_works_3 to) n A9) n x c = if c = t then 0 else -1 := fun x hne => by rw [va_up_ne _ _ hne]; exact ih (by omega) c (by omega)
      by_cases e : c = n
      · subst e
        split
        · next q =>
          rw [va_up_self, if_pos]
          rw [ht] at q
          exact neq q (by omega) (by omega)
        · next q =>
          rw [va_up_self, if_neg]
          rintro rfl
          exact q ht.symm
      · split
        · exact hv _ e
        · exact hv _ e
  have hcl : to.toNatClampNeg = t := by rw [ht]; exact nI_clamp (by omega)
  refine ⟨hI, ⟨by rw [hcl]; exact ht, by rw [hcl]; exact ht8⟩, fun c hc => ?_, ?_⟩
  · unfold sn
    rw [h1 80 (Nat.le_refl _) c hc]
    split
    · exact Or.inr (by decide)
    · exact Or.inl rfl
  · have e : lvM (zfold (K_works_3 to) 80 A9) = aX0 to.toNatClampNeg := by
      funext c
      unfold lvM aX0 sn
      rw [hcl]
      by_cases hc : c < 80
      · rw [h1 80 (Nat.le_refl _) c hc]
        by_cases hct : c = t
        · rw [if_pos hct, if_pos hct, if_pos ⟨hc, by decide⟩]; rfl
        · rw [if_neg hct, if_neg hct, if_neg (fun q => q.2 rfl)]
      · rw [if_neg (fun q => hc q.1), if_neg (by omega)]
    rw [e]
    exact aSt.refl _
/-- the distances that the model works out -/
theorem works_ok {A : Nat → Nat → Int32} (hI : Ih S) {t : Nat} (ht : to = nI t) (ht8 : t < 80) : wkJ S fr to d (o_works S A fr to d) ∧ aSb (eM S fr to d) (wN S) (lvM (o_works S A fr to d)) := by
  have j := wk_start (fr := fr) (d := d) (A9 := A 9) hI ht ht8
  obtain ⟨h1, h2⟩ := zwh_end (K := K_works_37 S fr to d) (P := wkJ2 S fr to d) (μ := wkM) (fun q r hq hk => wk_K hq hk) zBIG _ (wkJ2_0 j) (wkM_0 j)
  simp only [o_works]
  simp only [K_works_37] at h2
  generalize zwh (K_works_37 S fr to d) zBIG (1, zfold (K_works_3 to) 80 (A 9)) = z at h1 h2 ⊢
  split at h2
  · next hz => exact ⟨h1.1, h1.2 hz⟩
  · cases h2
end WK
