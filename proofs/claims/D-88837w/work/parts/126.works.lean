/-! loops that end when they end -/
def zwh {α : Type} (K : α → Option α) : Nat → α → α
  | 0, q => q
  | n + 1, q => match K q with
    | none => q
    | some r => zwh K n r
theorem zwh_n {α : Type} {K : α → Option α} {q : α} (h : K q = none) {n : Nat} : zwh K n q = q := by
  cases n with
  | zero => rfl
  | succ n => rw [zwh, h]
theorem zwh_s {α : Type} {K : α → Option α} {q r : α} (h : K q = some r) {n : Nat} : zwh K (n + 1) q = zwh K n r := by rw [zwh, h]
theorem zwl {P : Nat → Prop} (h : ∀ n, (∀ m, n = m + 1 → P m) → P n) : ∀ n, P n
  | 0 => h 0 (fun m e => by omega)
  | n + 1 => h (n + 1) (fun m e => by
    have : m = n := by omega
    subst this
    exact zwl h m)
def zBIG : Nat := 100000000
def D_works_101 (S : Nat → Int32) (a : Nat) (fr : Int32) (to : Int32) (d : Int32) (q58 : Int32 × (Nat → Int32)) (bx : Int32) : Int32 × (Nat → Int32) :=
    if (zin bx 0 79) = 0 then
      (q58.1, q58.2)
    else
      let b := (bx).toNatClampNeg
      if (q58.2 b) = (-1 : Int32) then
        (q58.1, q58.2)
      else
        if (o_canStep S a b fr to d) = 0 then
          (q58.1, q58.2)
        else
          if (q58.2 a) = (-1 : Int32) then
            let R_1 := va_up q58.2 a ((zstep S a b) + (q58.2 b))
            if q58.1 = 0 then
              ((1 : Int32), R_1)
            else
              ((1 : Int32), R_1)
          else
            if (q58.2 a) ≤ ((zstep S a b) + (q58.2 b)) then
              let R_2 := va_up q58.2 a (q58.2 a)
              if q58.1 = 0 then
                ((0 : Int32), R_2)
              else
                ((1 : Int32), R_2)
            else
              let R_3 := va_up q58.2 a ((zstep S a b) + (q58.2 b))
              if q58.1 = 0 then
                ((1 : Int32), R_3)
              else
                ((1 : Int32), R_3)
def K_works_58 (S : Nat → Int32) (a : Nat) (fr : Int32) (to : Int32) (d : Int32) : Nat → Int32 × (Nat → Int32) → Int32 × (Nat → Int32) := fun k q58 =>
    if (nI k) = 0 then
      (D_works_101 S a fr to d q58 ((nI a) + (1 : Int32)))
    else
      if (nI k) = (1 : Int32) then
        (D_works_101 S a fr to d q58 ((nI a) + (-1 : Int32)))
      else
        if (nI k) = (2 : Int32) then
          (D_works_101 S a fr to d q58 ((nI a) + (10 : Int32)))
        else
          (D_works_101 S a fr to d q58 ((nI a) + (-10 : Int32)))
def K_works_48 (S : Nat → Int32) (fr : Int32) (to : Int32) (d : Int32) : Nat → Int32 × (Nat → Int32) → Int32 × (Nat → Int32) := fun a q48 =>
    let q58 := zfold (K_works_58 S a fr to d) 4 (q48.1, q48.2)
    (q58.1, q58.2)
def K_works_37 (S : Nat → Int32) (fr : Int32) (to : Int32) (d : Int32) : Int32 × (Nat → Int32) → Option (Int32 × (Nat → Int32)) := fun q37 =>
    if q37.1 = 0 then
      none
    else
      let q48 := zfold (K_works_48 S fr to d) 80 ((0 : Int32), q37.2)
      some (q48.1, q48.2)
def K_works_3 (to : Int32) : Nat → (Nat → Int32) → (Nat → Int32) := fun c q3 =>
    if (nI c) = to then
      let t1 := va_up q3 c (0 : Int32)
      t1
    else
      let t2 := va_up q3 c (-1 : Int32)
      t2
def o_works (S : Nat → Int32) (A : Nat → Nat → Int32) (fr : Int32) (to : Int32) (d : Int32) : (Nat → Int32) :=
  let q3 := zfold (K_works_3 to) 80 (A 9)
  let q37 := zwh (K_works_37 S fr to d) zBIG ((1 : Int32), q3)
  q37.2
