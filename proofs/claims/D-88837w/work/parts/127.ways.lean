/-! least ways, plain: relaxations of distances (none: not reached) -/
def aR (e : Nat → Nat → Prop) (w : Nat → Nat → Nat) (X Y : Nat → Option Nat) : Prop :=
  ∃ a b v, a < 80 ∧ b < 80 ∧ e a b ∧ X b = some v ∧ (X a = none ∨ ∃ u, X a = some u ∧ w a b + v < u) ∧ Y = va_up X a (some (w a b + v))
def aSt (e : Nat → Nat → Prop) (w : Nat → Nat → Nat) (X Y : Nat → Option Nat) : Prop := ∀ P : (Nat → Option Nat) → Prop, P X → (∀ U V, P U → aR e w U V → P V) → P Y
theorem aSt.refl {e : Nat → Nat → Prop} {w : Nat → Nat → Nat} (X : Nat → Option Nat) : aSt e w X X := fun _ h _ => h
theorem aSt.step {e : Nat → Nat → Prop} {w : Nat → Nat → Nat} {X Y Z : Nat → Option Nat} (h : aSt e w X Y) (r : aR e w Y Z) : aSt e w X Z := fun P p s => s _ _ (h P p s) r
def aSb (e : Nat → Nat → Prop) (w : Nat → Nat → Nat) (X : Nat → Option Nat) : Prop := ∀ a b v, a < 80 → b < 80 → e a b → X b = some v → ∃ u, X a = some u ∧ u ≤ w a b + v
def aX0 (t : Nat) : Nat → Option Nat := fun c => if c = t then some 0 else none
def nsum (f : Nat → Nat) : Nat → Nat
  | 0 => 0
  | n + 1 => nsum f n + f n
theorem nsum_up {f g : Nat → Nat} {a : Nat} (h : ∀ c, c ≠ a → g c = f c) : ∀ n, (a < n → nsum g n + f a = nsum f n + g a) ∧ (n ≤ a → nsum g n = nsum f n)
  | 0 => ⟨fun q => absurd q (by omega), fun _ => rfl⟩
  | n + 1 => by
    obtain ⟨h1, h2⟩ := nsum_up h n
    simp only [nsum]
    refine ⟨fun q => ?_, fun q => ?_⟩
    · rcases (show a < n ∨ a = n by omega) with r | r
      · rw [h n (by omega)]
        have := h1 r
        omega
      · subst r
        rw [h2 (Nat.le_refl _)]
        omega
    · rw [h2 (by omega), h n (by omega)]
theorem nsum_le {f g : Nat → Nat} : ∀ n, (∀ c, c < n → f c ≤ g c) → nsum f n ≤ nsum g n
  | 0, _ => Nat.le_refl _
  | n + 1, h => by
    have h1 := nsum_le n (fun c hc => h c (by omega))
    have h2 := h n (by omega)
    simp only [nsum]
    omega
theorem nsum_lt {f g : Nat → Nat} {a n : Nat} (ha : a < n) (h : ∀ c, c < n → f c ≤ g c) (hl : f a < g a) : nsum f n < nsum g n := by
  induction n with
  | zero => omega
  | succ n ih =>
    simp only [nsum]
    rcases (show a < n ∨ a = n by omega) with r | r
    · have := ih r (fun c hc => h c (by omega))
      have := h n (by omega)
      omega
    · subst r
      have := nsum_le a (fun c hc => h c (by omega))
      omega
theorem nsum_k {f : Nat → Nat} {k : Nat} : ∀ n, (∀ c, c < n → f c ≤ k) → nsum f n ≤ k * n
  | 0, _ => Nat.zero_le _
  | n + 1, h => by
    have h1 := nsum_k n (fun c hc => h c (by omega))
    have h2 := h n (by omega)
    simp only [nsum]
    rw [Nat.mul_succ]
    omega
theorem zite1 (p : Prop) [Decidable p] : (if p then 1 else 0) ≤ 1 := by split <;> omega
/-- how many are reached -/
def acn (X : Nat → Option Nat) : Nat := nsum (fun c => if (X c).isSome then 1 else 0) 80
theorem acn_le (X : Nat → Option Nat) : acn X ≤ 80 := by
  have := nsum_k (f := fun c => if (X c).isSome then 1 else 0) (k := 1) 80 (fun c _ => zite1 _)
  unfold acn
  omega
def avl (o : Option Nat) : Nat := match o with | none => 100000 | some v => v
def asm (X : Nat → Option Nat) : Nat := nsum (fun c => avl (X c)) 80
section WAYS
variable {e : Nat → Nat → Prop} {w : Nat → Nat → Nat} {X Y : Nat → Option Nat} {t W : Nat}
theorem a_bd (hw : ∀ a b, w a b ≤ W) (h : aSt e w (aX0 t) X) (ht : t < 80) : ∀ c v, X c = some v → v ≤ W * acn X := by
  refine h (fun U => ∀ c v, U c = some v → v ≤ W * acn U) ?_ ?_
  · intro c v hv
    unfold aX0 at hv
    split at hv
    · cases hv; omega
    · cases hv
  · rintro U V hU ⟨a, b, v, ha, hb, he, hv, hx, rfl⟩ c u hc
    have hbv := hU b v hv
    have hcn : acn U ≤ acn (va_up U a (some (w a b + v))) ∧ (U a = none → acn (va_up U a (some (w a b + v))) = acn U + 1) := by
      have h1 := (nsum_up (f := fun c => if (U c).isSome then 1 else 0) (g := fun c => if (va_up U a (some (w a b + v)) c).isSome then 1 else 0) (a := a) (fun c hc => by (try dsimp only); rw [va_up_ne _ _ hc]) 80).1 ha
      (try dsimp only at h1)
      rw [va_up_self] at h1
      unfold acn
      refine ⟨?_, fun hn => ?_⟩
      · have : (if (U a).isSome = true then 1 else 0) ≤ 1 := by split <;> omega
        simp only [Option.isSome_some, if_true] at h1
        omega
      · rw [hn] at h1
        simp only [Option.isSome_none, Option.isSome_some, if_true, Bool.false_eq_true, if_false] at h1
        omega
    by_cases hca : c = a
    · subst hca
      rw [va_up_self] at hc
      cases hc
      rcases hx with hx | ⟨u, hu, hlt⟩
      · rw [hcn.2 hx, Nat.mul_succ]
        have := hw c b
        omega
      · have := hU c u hu
        have := Nat.mul_le_mul_left W hcn.1
        omega
    · rw [va_up_ne _ _ hca] at hc
      have := hU c u hc
      have := Nat.mul_le_mul_left W hcn.1
      omega
theorem a_bd2 (hw : ∀ a b, w a b ≤ W) (h : aSt e w (aX0 t) X) (ht : t < 80) {c v : Nat} (hc : X c = some v) : v ≤ W * 80 := by
  have := a_bd hw h ht c v hc
  have := Nat.mul_le_mul_left W (acn_le X)
  omega
theorem a_t (h : aSt e w (aX0 t) X) : X t = some 0 := by
  refine h (fun U => U t = some 0) (by unfold aX0; rw [if_pos rfl]) ?_
  rintro U V hU ⟨a, b, v, ha, hb, he, hv, hx, rfl⟩
  by_cases hta : t = a
  · subst hta
    rcases hx with hx | ⟨u, hu, hlt⟩
    · rw [hx] at hU; cases hU
    · rw [hu] at hU; cases hU; omega
  · rw [va_up_ne _ _ hta]; exact hU
/-- every reached place but the end has one behind it -/
theorem a_att (h : aSt e w (aX0 t) X) : ∀ c v, c ≠ t → X c = some v → c < 80 ∧ ∃ b u, b < 80 ∧ e c b ∧ X b = some u ∧ w c b + u ≤ v := by
  have h2 : X t = some 0 ∧ ∀ c v, c ≠ t → X c = some v → c < 80 ∧ ∃ b u, b < 80 ∧ e c b ∧ X b = some u ∧ w c b + u ≤ v := by
    refine h (fun U => U t = some 0 ∧ ∀ c v, c ≠ t → U c = some v → c < 80 ∧ ∃ b u, b < 80 ∧ e c b ∧ U b = some u ∧ w c b + u ≤ v) ⟨by unfold aX0; rw [if_pos rfl], fun c v hc hv => by unfold aX0 at hv; rw [if_neg hc] at hv; cases hv⟩ ?_
    rintro U V ⟨hT, hU⟩ ⟨a, b, v, ha, hb, he, hv, hx, rfl⟩
    have hta : t ≠ a := by
      rintro rfl
      rcases hx with hx | ⟨u, hu, hlt⟩
      · rw [hx] at hT; cases hT
      · rw [hu] at hT; cases hT; omega
    have hba : b ≠ a := by
      rintro rfl
      rcases hx with hx | ⟨u, hu, hlt⟩
      · rw [hx] at hv; cases hv
      · rw [hu] at hv; cases hv; omega
    refine ⟨by rw [va_up_ne _ _ hta]; exact hT, fun c u hc hcu => ?_⟩
    by_cases hca : c = a
    · subst hca
      rw [va_up_self] at hcu
      cases hcu
      exact ⟨ha, b, v, hb, he, by rw [va_up_ne _ _ hba]; exact hv, Nat.le_refl _⟩
    · rw [va_up_ne _ _ hca] at hcu
      obtain ⟨hc8, b', u', hb', he', hu', hle⟩ := hU c u hc hcu
      refine ⟨hc8, b', ?_⟩
      by_cases hb'a : b' = a
      · subst hb'a
        refine ⟨w b' b + v, hb', he', va_up_self _ _ _, ?_⟩
        rcases hx with hx | ⟨z, hz, hlt⟩
        · rw [hx] at hu'; cases hu'
        · rw [hz] at hu'; cases hu'; omega
      · exact ⟨u', hb', he', by rw [va_up_ne _ _ hb'a]; exact hu', hle⟩
  exact h2.2
/-- a relaxation makes the sum less -/
theorem a_sum (hb : ∀ c v, X c = some v → v < 100000) (r : aR e w X Y) (hb2 : ∀ c v, Y c = some v → v < 100000) : asm Y < asm X := by
  obtain ⟨a, b, v, ha, hb', he, hv, hx, rfl⟩ := r
  refine nsum_lt (a := a) ha (fun c _ => ?_) ?_
  · by_cases hca : c = a
    · subst hca
      (try dsimp only)
      rw [va_up_self]
      have h9 := hb2 c (w c b + v) (va_up_self _ _ _)
      rcases hx with hx | ⟨u, hu, hlt⟩
      · rw [hx]; simp only [avl]; omega
      · rw [hu]; simp only [avl]; omega
    · (try dsimp only)
      rw [va_up_ne _ _ hca]
      exact Nat.le_refl _
  · (try dsimp only)
    rw [va_up_self]
    have h9 := hb2 a (w a b + v) (va_up_self _ _ _)
    rcases hx with hx | ⟨u, hu, hlt⟩
    · rw [hx]; simp only [avl]; omega
    · rw [hu]; simp only [avl]; omega
theorem asm_le (hb : ∀ c v, X c = some v → v < 100000) : asm X ≤ 100000 * 80 := nsum_k 80 (fun c _ => by
  (try dsimp only)
  cases hx : X c with
  | none => exact Nat.le_refl _
  | some v => have := hb c v hx; simp only [avl]; omega)
/-- the next one behind a reached place, when nothing can be made less -/
theorem a_next (h : aSt e w (aX0 t) X) (hs : aSb e w X) {c v : Nat} (hc : c ≠ t) (hv : X c = some v) : c < 80 ∧ ∃ b u, b < 80 ∧ e c b ∧ X b = some u ∧ w c b + u = v := by
  obtain ⟨hc8, b, u, hb, he, hu, hle⟩ := a_att h c v hc hv
  obtain ⟨z, hz, hz2⟩ := hs c b u hc8 hb he hu
  rw [hv] at hz
  cases hz
  exact ⟨hc8, b, u, hb, he, hu, by omega⟩
/-- how many are nearer -/
def alt (X : Nat → Option Nat) (v : Nat) : Nat := nsum (fun c => if (match X c with | none => false | some u => decide (u < v)) = true then 1 else 0) 80
theorem alt_lt {b u v : Nat} (hb : b < 80) (hu : X b = some u) (huv : u < v) : alt X u < alt X v := by
  refine nsum_lt (a := b) hb (fun c _ => ?_) ?_
  · (try dsimp only)
    cases X c with
    | none => exact Nat.le_refl _
    | some z =>
      (try dsimp only)
      by_cases q : z < u
      · rw [if_pos (by simpa using q), if_pos (by simp; omega)]; exact Nat.le_refl _
      · rw [if_neg (by simpa using q)]; exact Nat.zero_le _
  · (try dsimp only)
    rw [hu]
    (try dsimp only)
    rw [if_neg (by simp), if_pos (by simpa using huv)]
    omega
theorem alt_le (X : Nat → Option Nat) (v : Nat) : alt X v ≤ 80 := by
  have := nsum_k (f := fun c => if (match X c with | none => false | some u => decide (u < v)) = true then 1 else 0) (k := 1) 80 (fun c _ => zite1 _)
  unfold alt
  omega
end WAYS
/-- where one may go at the step's end, and where at its start: the same least ways between places where one may go -/
theorem a_same {adj : Nat → Nat → Prop} {go : Nat → Prop} {w : Nat → Nat → Nat} {t : Nat} {M C : Nat → Option Nat} (gt : go t) (ht : t < 80)
    (m1 : aSt (fun a b => adj a b ∧ go b) w (aX0 t) M) (m2 : aSb (fun a b => adj a b ∧ go b) w M) (c1 : aSt (fun a b => adj a b ∧ go a) w (aX0 t) C) (c2 : aSb (fun a b => adj a b ∧ go a) w C) :
    (∀ c, go c → M c = C c) ∧ ∀ c v, C c = some v → go c := by
  have h1 : ∀ c v, C c = some v → go c ∧ ∃ u, M c = some u ∧ u ≤ v := by
    refine c1 (fun U => ∀ c v, U c = some v → go c ∧ ∃ u, M c = some u ∧ u ≤ v) ?_ ?_
    · intro c v hv
      unfold aX0 at hv
      split at hv
      · next q => subst q; cases hv; exact ⟨gt, 0, a_t m1, Nat.le_refl _⟩
      · cases hv
    · rintro U V hU ⟨a, b, v, ha, hb, ⟨he, hg⟩, hv, hx, rfl⟩ c u hc
      by_cases hca : c = a
      · subst hca
        rw [va_up_self] at hc
        cases hc
        obtain ⟨hgb, z, hz, hzv⟩ := hU b v hv
        obtain ⟨y, hy, hy2⟩ := m2 c b z ha hb ⟨he, hgb⟩ hz
        exact ⟨hg, y, hy, by omega⟩
      · rw [va_up_ne _ _ hca] at hc
        exact hU c u hc
  have h2 : ∀ c v, go c → M c = some v → ∃ u, C c = some u ∧ u ≤ v := by
    refine m1 (fun U => ∀ c v, go c → U c = some v → ∃ u, C c = some u ∧ u ≤ v) ?_ ?_
    · intro c v _ hv
      unfold aX0 at hv
      split at hv
      · next q => subst q; cases hv; exact ⟨0, a_t c1, Nat.le_refl _⟩
      · cases hv
    · rintro U V hU ⟨a, b, v, ha, hb, ⟨he, hg⟩, hv, hx, rfl⟩ c u hgc hc
      by_cases hca : c = a
      · subst hca
        rw [va_up_self] at hc
        cases hc
        obtain ⟨z, hz, hzv⟩ := hU b v hg hv
        obtain ⟨y, hy, hy2⟩ := c2 c b z ha hb ⟨he, hgc⟩ hz
        exact ⟨y, hy, by omega⟩
      · rw [va_up_ne _ _ hca] at hc
        exact hU c u hgc hc
  refine ⟨fun c hg => ?_, fun c v hv => (h1 c v hv).1⟩
  cases hM : M c with
  | none =>
    cases hC : C c with
    | none => rfl
    | some v =>
      obtain ⟨-, u, hu, -⟩ := h1 c v hC
      rw [hM] at hu; cases hu
  | some v =>
    obtain ⟨u, hu, hle⟩ := h2 c v hg hM
    obtain ⟨-, z, hz, hzl⟩ := h1 c u hu
    rw [hM] at hz
    cases hz
    rw [hu]
    congr 1
    omega
