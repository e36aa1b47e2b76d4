theorem D_A {S : Nat → Int32} {A A' : Nat → Nat → Int32} {F : Nat → Int32} {a sp ln op : Nat} {wh : Int32} (h : ∀ j, j < 6 → A 8 j = A' 8 j) (hw : wh.toNatClampNeg < 6) : D_factorS_278 S A F a sp ln op wh = D_factorS_278 S A' F a sp ln op wh := by
  simp only [D_factorS_278, h _ hw]
theorem fac_A {S : Nat → Int32} {A A' : Nat → Nat → Int32} {F : Nat → Int32} {a sp ln op : Nat} {rf rs : Nat → Int32 × Int32 × Int32} (h : ∀ j, j < 6 → A 8 j = A' 8 j) : o_factorS S A F a sp ln rf rs op = o_factorS S A' F a sp ln rf rs op := by
  simp only [o_factorS, h 5 (by omega), D_A (wh := 0) h (by decide), D_A (wh := 1) h (by decide), D_A (wh := 2) h (by decide), D_A (wh := 3) h (by decide), D_A (wh := 4) h (by decide), D_A (wh := -1) h (by decide)]
theorem z_fac_A {S : Nat → Int32} {A A' : Nat → Nat → Int32} {a ln : Nat} (h : ∀ j, j < 6 → A 8 j = A' 8 j) : ∀ r, z_fac S A a ln r = z_fac S A' a ln r
  | 0 => by
    funext sp
    simp only [z_fac]
    exact fac_A h
  | r + 1 => by
    funext sp
    simp only [z_fac]
    rw [z_fac_A h r]
    exact fac_A h
theorem z_som_A {S : Nat → Int32} {A A' : Nat → Nat → Int32} {a ln r sp : Nat} (h : ∀ j, j < 6 → A 8 j = A' 8 j) : z_som S A a ln r sp = z_som S A' a ln r sp := by
  have e : z_evy S A a ln r = z_evy S A' a ln r := by
    funext s
    simp only [z_evy, z_fac_A h r]
  simp only [z_som, e]
/-- whether a bill can be let: it hangs on the row alone -/
def zlet (S : Nat → Int32) (b : Nat) (day : Int32) : Int32 := (o_canBeLet S (fun _ _ => 0) (fun _ => 0) b day).1
theorem six_A {R T : Nat → Int32} {x0 x1 x2 x3 x4 x5 : Int32} : ∀ j, j < 6 → va_up (va_up (va_up (va_up (va_up (va_up R 0 x0) 1 x1) 2 x2) 3 x3) 4 x4) 5 x5 j = va_up (va_up (va_up (va_up (va_up (va_up T 0 x0) 1 x1) 2 x2) 3 x3) 4 x4) 5 x5 j := by
  intro j hj
  by_cases e5 : j = 5
  · subst e5; rfl
  by_cases e4 : j = 4
  · subst e4; rfl
  by_cases e3 : j = 3
  · subst e3; rfl
  by_cases e2 : j = 2
  · subst e2; rfl
  by_cases e1 : j = 1
  · subst e1; rfl
  obtain rfl : j = 0 := by omega
  rfl
theorem fst_ite {α β : Type} {c : Prop} [Decidable c] {x y : α × β} : (if c then x else y).1 = if c then x.1 else y.1 := by split <;> rfl
theorem let_A {S : Nat → Int32} {A : Nat → Nat → Int32} {F : Nat → Int32} {b : Nat} {day : Int32} : (o_canBeLet S A F b day).1 = zlet S b day := by
  simp only [o_canBeLet, zlet, fst_ite]
  split
  · rfl
  · rw [z_som_A (A' := va_up (fun _ _ => 0) 8 _)]
    intro j hj
    rw [va_up_self, va_up_self]
    exact six_A j hj
theorem zlet_bo {S : Nat → Int32} {b : Nat} {day : Int32} {no : Nat} (ho : Ior S no) (hcl : Icl S no) : zlet S b day = 0 ∨ zlet S b day = 1 := by
  simp only [o_canBeLet, zlet, fst_ite]
  split
  · exact Or.inr rfl
  · next c =>
    obtain ⟨r, hr, hr72, hr1, hr2, hr3⟩ := zruling_in ho c
    obtain ⟨ln, sp, hln, hln4, hspv, hspl⟩ := hcl r hr1 hr2 hr3
    have e1 : (zruling S 6 day).toNatClampNeg = r := by rw [hr]; exact nI_clamp (by omega)
    simp only [e1, sn_of hln (by omega), sn_of hspv (by omega)]
    exact z_som_bo hln4 hspl
