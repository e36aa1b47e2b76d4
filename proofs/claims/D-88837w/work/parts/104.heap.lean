/-! the classes by number: name, fields, how many -/
def zcl : Nat → vw_C := fun k => match k with
  | 0 => (RX0, TX0, 27)
  | 1 => (RX1, TX1, 5)
  | 2 => (RX2, TX2, 21)
  | 3 => (RX3, TX3, 3)
  | 4 => (RX4, TX4, 2)
  | 5 => (RX5, TX5, 7)
  | 6 => (RX6, TX6, 3)
  | 8 => (RX8, TX8, 1)
  | 9 => (RX9, TX9, 3)
  | 10 => (RX10, TX10, 2)
  | 11 => (RX11, TX11, 2)
  | 13 => (RX13, TX13, 12)
  | 15 => (RX15, TX15, 17)
  | 16 => (RX16, TX16, 7)
  | 17 => (RX17, TX17, 4)
  | 18 => (RX18, TX18, 18)
  | 19 => (RX19, TX19, 3)
  | 20 => (RX20, TX20, 5)
  | 21 => (RX21, TX21, 5)
  | 22 => (RX22, TX22, 6)
  | 23 => (RX23, TX23, 7)
  | 24 => (RX24, TX24, 22)
  | 26 => (RX26, TX26, 1)
  | 27 => (RX27, TX27, 1)
  | 28 => (RX28, TX28, 1)
  | 30 => (RJ2, TJ2, 3)
  | _ => ("", fun _ => ("", "", "", true), 0)
def zty : Nat → Nat → FieldType := fun k => match k with
  | 0 => tyX0
  | 1 => tyX1
  | 2 => tyX2
  | 3 => tyX3
  | 4 => tyX4
  | 5 => tyX5
  | 6 => tyX6
  | 8 => tyX8
  | 9 => tyX9
  | 10 => tyX10
  | 11 => tyX11
  | 13 => tyX13
  | 15 => tyX15
  | 16 => tyX16
  | 17 => tyX17
  | 18 => tyX18
  | 19 => tyX19
  | 20 => tyX20
  | 21 => tyX21
  | 22 => tyX22
  | 23 => tyX23
  | 24 => tyX24
  | 26 => tyX26
  | 27 => tyX27
  | 28 => tyX28
  | 30 => tyJ2
  | _ => fun _ => .int
def zok : Nat → Bool := fun k => match k with
  | 0 => true
  | 1 => true
  | 2 => true
  | 3 => true
  | 4 => true
  | 5 => true
  | 6 => true
  | 8 => true
  | 9 => true
  | 10 => true
  | 11 => true
  | 13 => true
  | 15 => true
  | 16 => true
  | 17 => true
  | 18 => true
  | 19 => true
  | 20 => true
  | 21 => true
  | 22 => true
  | 23 => true
  | 24 => true
  | 26 => true
  | 27 => true
  | 28 => true
  | 30 => true
  | _ => false
theorem zok_lt {k : Nat} (h : zok k = true) : k < 40 := by
  unfold zok at h
  split at h <;> first | omega | (exact absurd h (by decide))
theorem zcl_in {k : Nat} (h : zok k = true) : ∀ w ∈ u_ws (zcl k).1 (zcl k).2.1 (zcl k).2.2, w ∈ lw_all := by
  unfold zok at h
  split at h
  · exact in_X0
  · exact in_X1
  · exact in_X2
  · exact in_X3
  · exact in_X4
  · exact in_X5
  · exact in_X6
  · exact in_X8
  · exact in_X9
  · exact in_X10
  · exact in_X11
  · exact in_X13
  · exact in_X15
  · exact in_X16
  · exact in_X17
  · exact in_X18
  · exact in_X19
  · exact in_X20
  · exact in_X21
  · exact in_X22
  · exact in_X23
  · exact in_X24
  · exact in_X26
  · exact in_X27
  · exact in_X28
  · exact in_J2
  · exact absurd h (by decide)
theorem zcl_ty {k : Nat} (h : zok k = true) : ∀ j, j < (zcl k).2.2 → parseFieldDescriptor ((zcl k).2.1 j).2.2.1 = some (zty k j) := by
  unfold zok at h
  split at h
  · exact tyX0_ok
  · exact tyX1_ok
  · exact tyX2_ok
  · exact tyX3_ok
  · exact tyX4_ok
  · exact tyX5_ok
  · exact tyX6_ok
  · exact tyX8_ok
  · exact tyX9_ok
  · exact tyX10_ok
  · exact tyX11_ok
  · exact tyX13_ok
  · exact tyX15_ok
  · exact tyX16_ok
  · exact tyX17_ok
  · exact tyX18_ok
  · exact tyX19_ok
  · exact tyX20_ok
  · exact tyX21_ok
  · exact tyX22_ok
  · exact tyX23_ok
  · exact tyX24_ok
  · exact tyX26_ok
  · exact tyX27_ok
  · exact tyX28_ok
  · exact tyJ2_ok
  · exact absurd h (by decide)
theorem zcl_nm {k : Nat} (h : zok k = true) : ∀ a, a < (zcl k).2.2 → ∀ b, b < (zcl k).2.2 → a ≠ b → ((zcl k).2.1 a).2.1 ≠ ((zcl k).2.1 b).2.1 := by
  unfold zok at h
  split at h
  · exact nmX0
  · exact nmX1
  · exact nmX2
  · exact nmX3
  · exact nmX4
  · exact nmX5
  · exact nmX6
  · exact nmX8
  · exact nmX9
  · exact nmX10
  · exact nmX11
  · exact nmX13
  · exact nmX15
  · exact nmX16
  · exact nmX17
  · exact nmX18
  · exact nmX19
  · exact nmX20
  · exact nmX21
  · exact nmX22
  · exact nmX23
  · exact nmX24
  · exact nmX26
  · exact nmX27
  · exact nmX28
  · exact nmJ2
  · exact absurd h (by decide)
/-! the plain heap: tags, lengths, ints, longs, references, top -/
abbrev Hp : Type := (Nat → Nat) × (Nat → Nat) × (Nat → Nat → Int32) × (Nat → Nat → Int64) × (Nat → Nat → Option Nat) × Nat
def hT (h : Hp) : Nat → Nat := h.1
def hN (h : Hp) : Nat → Nat := h.2.1
def hI (h : Hp) : Nat → Nat → Int32 := h.2.2.1
def hL (h : Hp) : Nat → Nat → Int64 := h.2.2.2.1
def hR (h : Hp) : Nat → Nat → Option Nat := h.2.2.2.2.1
def hZ (h : Hp) : Nat := h.2.2.2.2.2
def wI (h : Hp) (a : Nat) (f : Nat → Int32) : Hp := (hT h, hN h, va_up (hI h) a f, hL h, hR h, hZ h)
def wL (h : Hp) (a : Nat) (f : Nat → Int64) : Hp := (hT h, hN h, hI h, va_up (hL h) a f, hR h, hZ h)
def wR (h : Hp) (a : Nat) (f : Nat → Option Nat) : Hp := (hT h, hN h, hI h, hL h, va_up (hR h) a f, hZ h)
def nw (h : Hp) (t n : Nat) : Hp := (va_up (hT h) (hZ h) t, va_up (hN h) (hZ h) n, va_up (hI h) (hZ h) (fun _ => 0), va_up (hL h) (hZ h) (fun _ => 0), va_up (hR h) (hZ h) (fun _ => none), hZ h + 1)
theorem hT_wI (h : Hp) (a : Nat) (f : Nat → Int32) : hT (wI h a f) = hT h := rfl
theorem hN_wI (h : Hp) (a : Nat) (f : Nat → Int32) : hN (wI h a f) = hN h := rfl
theorem hL_wI (h : Hp) (a : Nat) (f : Nat → Int32) : hL (wI h a f) = hL h := rfl
theorem hR_wI (h : Hp) (a : Nat) (f : Nat → Int32) : hR (wI h a f) = hR h := rfl
theorem hZ_wI (h : Hp) (a : Nat) (f : Nat → Int32) : hZ (wI h a f) = hZ h := rfl
theorem hT_wL (h : Hp) (a : Nat) (f : Nat → Int64) : hT (wL h a f) = hT h := rfl
theorem hN_wL (h : Hp) (a : Nat) (f : Nat → Int64) : hN (wL h a f) = hN h := rfl
theorem hI_wL (h : Hp) (a : Nat) (f : Nat → Int64) : hI (wL h a f) = hI h := rfl
theorem hR_wL (h : Hp) (a : Nat) (f : Nat → Int64) : hR (wL h a f) = hR h := rfl
theorem hZ_wL (h : Hp) (a : Nat) (f : Nat → Int64) : hZ (wL h a f) = hZ h := rfl
theorem hT_wR (h : Hp) (a : Nat) (f : Nat → Option Nat) : hT (wR h a f) = hT h := rfl
theorem hN_wR (h : Hp) (a : Nat) (f : Nat → Option Nat) : hN (wR h a f) = hN h := rfl
theorem hI_wR (h : Hp) (a : Nat) (f : Nat → Option Nat) : hI (wR h a f) = hI h := rfl
theorem hL_wR (h : Hp) (a : Nat) (f : Nat → Option Nat) : hL (wR h a f) = hL h := rfl
theorem hZ_wR (h : Hp) (a : Nat) (f : Nat → Option Nat) : hZ (wR h a f) = hZ h := rfl
theorem hI_wI (h : Hp) (a : Nat) (f : Nat → Int32) : hI (wI h a f) = va_up (hI h) a f := rfl
theorem hL_wL (h : Hp) (a : Nat) (f : Nat → Int64) : hL (wL h a f) = va_up (hL h) a f := rfl
theorem hR_wR (h : Hp) (a : Nat) (f : Nat → Option Nat) : hR (wR h a f) = va_up (hR h) a f := rfl
theorem hI_wIs (h : Hp) (a : Nat) (f : Nat → Int32) : hI (wI h a f) a = f := va_up_self _ _ _
theorem hL_wLs (h : Hp) (a : Nat) (f : Nat → Int64) : hL (wL h a f) a = f := va_up_self _ _ _
theorem hR_wRs (h : Hp) (a : Nat) (f : Nat → Option Nat) : hR (wR h a f) a = f := va_up_self _ _ _
theorem hI_wIn (h : Hp) {a b : Nat} (f : Nat → Int32) (n : b ≠ a) : hI (wI h a f) b = hI h b := va_up_ne _ _ n
theorem hL_wLn (h : Hp) {a b : Nat} (f : Nat → Int64) (n : b ≠ a) : hL (wL h a f) b = hL h b := va_up_ne _ _ n
theorem hR_wRn (h : Hp) {a b : Nat} (f : Nat → Option Nat) (n : b ≠ a) : hR (wR h a f) b = hR h b := va_up_ne _ _ n
theorem hZ_nw (h : Hp) (t n : Nat) : hZ (nw h t n) = hZ h + 1 := rfl
theorem hT_nws (h : Hp) (t n : Nat) : hT (nw h t n) (hZ h) = t := va_up_self _ _ _
theorem hN_nws (h : Hp) (t n : Nat) : hN (nw h t n) (hZ h) = n := va_up_self _ _ _
theorem hI_nws (h : Hp) (t n : Nat) : hI (nw h t n) (hZ h) = fun _ => 0 := va_up_self _ _ _
theorem hL_nws (h : Hp) (t n : Nat) : hL (nw h t n) (hZ h) = fun _ => 0 := va_up_self _ _ _
theorem hR_nws (h : Hp) (t n : Nat) : hR (nw h t n) (hZ h) = fun _ => none := va_up_self _ _ _
theorem hT_nwn (h : Hp) (t n : Nat) {b : Nat} (q : b ≠ hZ h) : hT (nw h t n) b = hT h b := va_up_ne _ _ q
theorem hN_nwn (h : Hp) (t n : Nat) {b : Nat} (q : b ≠ hZ h) : hN (nw h t n) b = hN h b := va_up_ne _ _ q
theorem hI_nwn (h : Hp) (t n : Nat) {b : Nat} (q : b ≠ hZ h) : hI (nw h t n) b = hI h b := va_up_ne _ _ q
theorem hL_nwn (h : Hp) (t n : Nat) {b : Nat} (q : b ≠ hZ h) : hL (nw h t n) b = hL h b := va_up_ne _ _ q
theorem hR_nwn (h : Hp) (t n : Nat) {b : Nat} (q : b ≠ hZ h) : hR (nw h t n) b = hR h b := va_up_ne _ _ q
/-! the world: class ids, slots, array classes, the first heap, addresses of constants -/
abbrev Wd : Type := (Nat → ClassId) × (Nat → Nat → Nat) × (Nat → ClassId) × Heap × (Nat → Nat)
abbrev Wd.C (w : Wd) : Nat → ClassId := w.1
abbrev Wd.S (w : Wd) : Nat → Nat → Nat := w.2.1
abbrev Wd.A (w : Wd) : Nat → ClassId := w.2.2.1
abbrev Wd.H (w : Wd) : Heap := w.2.2.2.1
abbrev Wd.K (w : Wd) : Nat → Nat := w.2.2.2.2
/-- array types by number -/
def zat : Nat → FieldType := fun c => match c with
  | 0 => .int
  | 1 => .long
  | 2 => .byte
  | 3 => .short
  | 4 => .char
  | 5 => .boolean
  | 6 => .object "java/lang/Object"
  | 7 => .object "LinesPromised$Sheet"
  | 8 => .array .int
  | 9 => .array .long
  | _ => .array .char
def zfv (ty : FieldType) (i : Int32) (l : Int64) (r : Option Nat) : Value := match ty with
  | .long => .long l
  | .object _ => va_rf r
  | .array _ => va_rf r
  | _ => .int i
/-- a tag's kind: below 40 an object of that class; from 100 on an array: 50 roles a type; from 700 on an array of the first heap -/
def zkd (t : Nat) : Nat := t % 1000
def zOB (w : Wd) (k : Nat) (h : Hp) (H : Heap) (a : Nat) : Prop := t_OB a (w.C k) (zcl k).2.2 (w.S k) H (fun j => zfv (zty k j) (hI h a j) (hL h a j) (hR h a j))
def zAB (w : Wd) (c : Nat) (h : Hp) (H : Heap) (a : Nat) : Prop := H[a]? = some (arrV (w.A c) (hN h a) (fun j => zfv (zat c) (hI h a j) (hL h a j) (hR h a j)))
def RC (w : Wd) (h : Hp) (H : Heap) (a : Nat) : Prop :=
  (zkd (hT h a) < 40 → zok (zkd (hT h a)) = true ∧ w.H.size ≤ a ∧ zOB w (zkd (hT h a)) h H a) ∧
  (100 ≤ zkd (hT h a) → zkd (hT h a) < 650 → w.H.size ≤ a ∧ zAB w ((zkd (hT h a) - 100) / 50) h H a) ∧
  (700 ≤ zkd (hT h a) → zkd (hT h a) < 711 → zAB w (zkd (hT h a) - 700) h H a)
def RelH (w : Wd) (h : Hp) (H : Heap) : Prop := H.size = hZ h ∧ w.H.size ≤ hZ h ∧ ((∀ q : Nat, q < w.H.size → H[q]? = w.H[q]?) ∧ ∀ b : Nat, hZ h ≤ b → hT h b = 999) ∧ ∀ a : Nat, a < hZ h → RC w h H a
theorem zOB.kept {w : Wd} {k : Nat} {h h' : Hp} {H H' : Heap} {a : Nat} (q : zOB w k h H a) (e : H'[a]? = H[a]?) (e1 : hI h' a = hI h a) (e2 : hL h' a = hL h a) (e3 : hR h' a = hR h a) : zOB w k h' H' a := by
  unfold zOB at q ⊢
  rw [e1, e2, e3]
  exact q.kept e
theorem zAB.kept {w : Wd} {k : Nat} {h h' : Hp} {H H' : Heap} {a : Nat} (q : zAB w k h H a) (e : H'[a]? = H[a]?) (e0 : hN h' a = hN h a) (e1 : hI h' a = hI h a) (e2 : hL h' a = hL h a) (e3 : hR h' a = hR h a) : zAB w k h' H' a := by
  unfold zAB at q ⊢
  rw [e, e0, e1, e2, e3]
  exact q
theorem RC.kept {w : Wd} {h h' : Hp} {H H' : Heap} {a : Nat} (q : RC w h H a) (e : H'[a]? = H[a]?) (et : hT h' a = hT h a) (e0 : hN h' a = hN h a) (e1 : hI h' a = hI h a) (e2 : hL h' a = hL h a) (e3 : hR h' a = hR h a) : RC w h' H' a := by
  unfold RC at q ⊢
  rw [et]
  refine ⟨fun hk => ?_, fun h1 h2 => ?_, fun h1 h2 => ?_⟩
  · obtain ⟨x, y, z⟩ := q.1 hk
    exact ⟨x, y, z.kept e e1 e2 e3⟩
  · obtain ⟨y, z⟩ := q.2.1 h1 h2
    exact ⟨y, z.kept e e0 e1 e2 e3⟩
  · exact (q.2.2 h1 h2).kept e e0 e1 e2 e3
/-- one cell changes -/
theorem RelH.set {w : Wd} {h h' : Hp} {H H' : Heap} {a : Nat} (r : RelH w h H) (ha : w.H.size ≤ a) (hs : H'.size = H.size) (ho : ∀ q : Nat, q ≠ a → H'[q]? = H[q]?) (ez : hZ h' = hZ h) (et : hT h' a = hT h a) (hh : ∀ b, b ≠ a → hT h' b = hT h b ∧ hN h' b = hN h b ∧ hI h' b = hI h b ∧ hL h' b = hL h b ∧ hR h' b = hR h b) (hc : a < hZ h → RC w h' H' a) : RelH w h' H' := by
  obtain ⟨r1, r2, r3, r4⟩ := r
  refine ⟨by rw [hs, r1, ez], by rw [ez]; exact r2, ⟨fun q hq => by rw [ho q (by omega)]; exact r3.1 q hq, fun b hb => ?_⟩, fun b hb => ?_⟩
  · rw [ez] at hb
    by_cases hba : b = a
    · rw [hba] at hb ⊢
      rw [et]
      exact r3.2 a hb
    · rw [(hh b hba).1]
      exact r3.2 b hb
  rw [ez] at hb
  by_cases hba : b = a
  · subst hba
    exact hc hb
  · obtain ⟨x0, x1, x2, x3, x4⟩ := hh b hba
    exact (r4 b hb).kept (ho b hba) x0 x1 x2 x3 x4
/-- a cell is made -/
theorem RelH.new {w : Wd} {h : Hp} {H H' : Heap} {t n : Nat} (r : RelH w h H) (hs : H'.size = hZ h + 1) (ho : ∀ q : Nat, q < hZ h → H'[q]? = H[q]?) (hc : RC w (nw h t n) H' (hZ h)) : RelH w (nw h t n) H' := by
  obtain ⟨r1, r2, r3, r4⟩ := r
  refine ⟨hs, by rw [hZ_nw]; omega, ⟨fun q hq => by rw [ho q (by omega)]; exact r3.1 q hq, fun b hb => ?_⟩, fun b hb => ?_⟩
  · rw [hZ_nw] at hb
    rw [hT_nwn h t n (by omega)]
    exact r3.2 b (by omega)
  rw [hZ_nw] at hb
  by_cases hba : b = hZ h
  · subst hba
    exact hc
  · have hb' : b < hZ h := by omega
    exact (r4 b hb').kept (ho b hb') (hT_nwn h t n hba) (hN_nwn h t n hba) (hI_nwn h t n hba) (hL_nwn h t n hba) (hR_nwn h t n hba)
