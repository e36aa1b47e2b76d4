def K_slope_148 (S : Nat → Int32) (d : Int32) (ca : Nat) (cb : Nat) (R_1 : Nat → Int32) (cur : Nat) : Int32 → Option (Int32) := fun q148 =>
    let c := q148.toNatClampNeg
    if (bI (zbes (nI cur) (nI c))) = 0 then
      some (nI (c + 1))
    else
      if (R_1 c) = (-1 : Int32) then
        some (nI (c + 1))
      else
        if (o_canStep S cur c (nI ca) (nI cb) d) = 0 then
          some (nI (c + 1))
        else
          if ((zstep S cur c) + (R_1 c)) = (R_1 cur) then
            none
          else
            some (nI (c + 1))
def K_slope_120 (S : Nat → Int32) (d : Int32) (ca : Nat) (cb : Nat) (R_1 : Nat → Int32) : Int32 × (Nat → Int32) → Option (Int32 × (Nat → Int32)) := fun q120 =>
    let nn := q120.1.toNatClampNeg - 1
    let cur := sn q120.2 nn
    if (nI cur) = (nI cb) then
      none
    else
      let q148 := zwh (K_slope_148 S d ca cb R_1 cur) zBIG (0 : Int32)
      let c := q148.toNatClampNeg
      let t1 := va_up q120.2 (nn + 1) (nI c)
      some ((q120.1 + (1 : Int32)), t1)
def o_slope (S : Nat → Int32) (A : Nat → Nat → Int32) (a : Int32) (b : Int32) (d : Int32) (what : Int32) : Int32 × (Nat → Int32) × (Nat → Int32) :=
  if (zin a 0 (S 1 - 1)) = 0 then
    ((-1 : Int32), (A 9), (A 10))
  else
    let x := a.toNatClampNeg
    if (zin b 0 (S 1 - 1)) = 0 then
      ((-1 : Int32), (A 9), (A 10))
    else
      let y := b.toNatClampNeg
      if what < 0 then
        ((-1 : Int32), (A 9), (A 10))
      else
        if (zin what (2 : Int32) (9 : Int32)) = 0 then
          if (nI x) = (nI y) then
            ((-2 : Int32), (A 9), (A 10))
          else
            if (zin d 0 999) = 0 then
              ((-2 : Int32), (A 9), (A 10))
            else
              let ca := sn S (180 + x)
              let cb := sn S (180 + y)
              let R_1 := o_works S (va_up (va_up A 9 (A 9)) 10 (A 10)) (nI ca) (nI cb) d
              if (R_1 ca) = (-1 : Int32) then
                ((-5 : Int32), R_1, (A 10))
              else
                if what = 0 then
                  ((R_1 ca), R_1, (A 10))
                else
                  let R_2 := va_up (A 10) 0 (nI ca)
                  let q120 := zwh (K_slope_120 S d ca cb R_1) zBIG ((1 : Int32), R_2)
                  if what = (1 : Int32) then
                    (q120.1, R_1, q120.2)
                  else
                    let wh := what.toNatClampNeg - 10
                    if q120.1 ≤ ((nI (wh + 10)) - (10 : Int32)) then
                      ((-1 : Int32), R_1, q120.2)
                    else
                      ((q120.2 wh), R_1, q120.2)
        else
          ((-1 : Int32), (A 9), (A 10))
