theorem zls.set2 {lsA ls' : Array Slot} {n i : Nat} {ls lz : List (Option Value)} {v : Value} (hs : lv_has ls' n ((i, v) :: (zP 0 ls).filter (fun q => !(q.1 == i) && (!(q.1 == i + 1) && !(q.1 + 1 == i && q.2.category == 2))))) (h1 : ∀ j u, lz[j]? = some (some u) → (j = i ∧ u = v) ∨ (j ≠ i ∧ j ≠ i + 1 ∧ ls[j]? = some (some u) ∧ (j + 1 = i → znl (some u) = true))) : zls ls' n lz := by
  refine zls.sub hs fun j u hj => ?_
  rcases h1 j u hj with ⟨rfl, rfl⟩ | ⟨h2, h2', h3, h4⟩
  · exact List.mem_cons_self
  · refine List.mem_cons_of_mem _ (List.mem_filter.mpr ⟨zP_mem.mpr ⟨j, by omega, h3⟩, ?_⟩)
    have e1 : (j == i) = false := by simpa using h2
    have e3 : (j == i + 1) = false := by simpa using h2'
    by_cases h5 : j + 1 = i
    · have := znl_cat (h4 h5)
      simp [e1, e3, this]
    · have e2 : (j + 1 == i) = false := by simpa using h5
      simp [e1, e2, e3]
theorem zstore2 (i : Nat) (ls : List (Option Value)) (j : Nat) (u v : Value) {lz : List (Option Value)} (hz : lz = (ls.set i (some v)).set (i + 1) none := by rfl) (hj : lz[j]? = some (some u)) (hp : ∀ k, i = k + 1 → ∀ y, ls[k]? = some (some y) → znl (some y) = true) : (j = i ∧ u = v) ∨ (j ≠ i ∧ j ≠ i + 1 ∧ ls[j]? = some (some u) ∧ (j + 1 = i → znl (some u) = true)) := by
  subst hz
  have e2 : j ≠ i + 1 := by
    intro e
    subst e
    rw [List.getElem?_set] at hj
    simp at hj
  rw [List.getElem?_set, if_neg (fun q => e2 q.symm)] at hj
  by_cases e : j = i
  · subst e
    left
    rw [List.getElem?_set] at hj
    simp at hj
    exact ⟨rfl, hj.2.symm⟩
  · right
    rw [List.getElem?_set] at hj
    rw [if_neg (fun q => e q.symm)] at hj
    exact ⟨e, e2, hj, fun q => hp j q.symm u hj⟩
theorem V_lstore0 {w : Wd} {mi : Mi} {cc : ByteArray} {L cb sb : Nat} {h : Hp} {pc pc' : Nat} {Q : Outcome → Hp → Prop} {o o' : Option Value} {t : List (Option Value)} {st : List Value} {x : Int64} (d : Dc cc pc (.lstore_n 0) 1 pc') (hn : Nat.blt 1 mi.2.1 = true) (k : V w mi cc L cb sb h pc' (some (.long x) :: none :: t) st Q) : V w mi cc L cb sb h pc (o :: o' :: t) (.long x :: st) Q := by
  obtain ⟨d, rfl⟩ := d
  intro p l e R s m args below meth c H locs cells slots lsA F a1 a2 a3 a4 a5 a6 hl
  refine lv_lstore_n F.1 F.2.1 d rfl hl (Nat.le_of_ble_eq_true hn) rfl (fun ls' hl' => k p l e R s m args below meth c H locs cells slots ls' F a1 a2 a3 a4 a5 a6 (zls.set2 (lsA := lsA) hl' (fun j u hj => zstore2 0 (o :: o' :: t) j u (.long x) rfl hj (fun q3 q1 y q2 => absurd q1 (by omega)))))
theorem V_lstore1 {w : Wd} {mi : Mi} {cc : ByteArray} {L cb sb : Nat} {h : Hp} {pc pc' : Nat} {Q : Outcome → Hp → Prop} {o0 : Option Value} {o o' : Option Value} {t : List (Option Value)} {st : List Value} {x : Int64} (hp : znl o0 = true) (d : Dc cc pc (.lstore_n 1) 1 pc') (hn : Nat.blt 2 mi.2.1 = true) (k : V w mi cc L cb sb h pc' (o0 :: some (.long x) :: none :: t) st Q) : V w mi cc L cb sb h pc (o0 :: o :: o' :: t) (.long x :: st) Q := by
  obtain ⟨d, rfl⟩ := d
  intro p l e R s m args below meth c H locs cells slots lsA F a1 a2 a3 a4 a5 a6 hl
  refine lv_lstore_n F.1 F.2.1 d rfl hl (Nat.le_of_ble_eq_true hn) rfl (fun ls' hl' => k p l e R s m args below meth c H locs cells slots ls' F a1 a2 a3 a4 a5 a6 (zls.set2 (lsA := lsA) hl' (fun j u hj => zstore2 1 (o0 :: o :: o' :: t) j u (.long x) rfl hj (fun q3 q1 y q2 => by
      obtain rfl : q3 = 0 := by omega
      have q4 : o0 = some y := Option.some.inj q2
      rw [← q4]; exact hp))))
theorem V_lstore2 {w : Wd} {mi : Mi} {cc : ByteArray} {L cb sb : Nat} {h : Hp} {pc pc' : Nat} {Q : Outcome → Hp → Prop} {o0 o1 : Option Value} {o o' : Option Value} {t : List (Option Value)} {st : List Value} {x : Int64} (hp : znl o1 = true) (d : Dc cc pc (.lstore_n 2) 1 pc') (hn : Nat.blt 3 mi.2.1 = true) (k : V w mi cc L cb sb h pc' (o0 :: o1 :: some (.long x) :: none :: t) st Q) : V w mi cc L cb sb h pc (o0 :: o1 :: o :: o' :: t) (.long x :: st) Q := by
  obtain ⟨d, rfl⟩ := d
  intro p l e R s m args below meth c H locs cells slots lsA F a1 a2 a3 a4 a5 a6 hl
  refine lv_lstore_n F.1 F.2.1 d rfl hl (Nat.le_of_ble_eq_true hn) rfl (fun ls' hl' => k p l e R s m args below meth c H locs cells slots ls' F a1 a2 a3 a4 a5 a6 (zls.set2 (lsA := lsA) hl' (fun j u hj => zstore2 2 (o0 :: o1 :: o :: o' :: t) j u (.long x) rfl hj (fun q3 q1 y q2 => by
      obtain rfl : q3 = 1 := by omega
      have q4 : o1 = some y := Option.some.inj q2
      rw [← q4]; exact hp))))
theorem V_lstore3 {w : Wd} {mi : Mi} {cc : ByteArray} {L cb sb : Nat} {h : Hp} {pc pc' : Nat} {Q : Outcome → Hp → Prop} {o0 o1 o2 : Option Value} {o o' : Option Value} {t : List (Option Value)} {st : List Value} {x : Int64} (hp : znl o2 = true) (d : Dc cc pc (.lstore_n 3) 1 pc') (hn : Nat.blt 4 mi.2.1 = true) (k : V w mi cc L cb sb h pc' (o0 :: o1 :: o2 :: some (.long x) :: none :: t) st Q) : V w mi cc L cb sb h pc (o0 :: o1 :: o2 :: o :: o' :: t) (.long x :: st) Q := by
  obtain ⟨d, rfl⟩ := d
  intro p l e R s m args below meth c H locs cells slots lsA F a1 a2 a3 a4 a5 a6 hl
  refine lv_lstore_n F.1 F.2.1 d rfl hl (Nat.le_of_ble_eq_true hn) rfl (fun ls' hl' => k p l e R s m args below meth c H locs cells slots ls' F a1 a2 a3 a4 a5 a6 (zls.set2 (lsA := lsA) hl' (fun j u hj => zstore2 3 (o0 :: o1 :: o2 :: o :: o' :: t) j u (.long x) rfl hj (fun q3 q1 y q2 => by
      obtain rfl : q3 = 2 := by omega
      have q4 : o2 = some y := Option.some.inj q2
      rw [← q4]; exact hp))))
theorem V_lstore4 {w : Wd} {mi : Mi} {cc : ByteArray} {L cb sb : Nat} {h : Hp} {pc pc' : Nat} {Q : Outcome → Hp → Prop} {o0 o1 o2 o3 : Option Value} {o o' : Option Value} {t : List (Option Value)} {st : List Value} {x : Int64} (hp : znl o3 = true) (d : Dc cc pc (.lstore 4) 2 pc') (hn : Nat.blt 5 mi.2.1 = true) (k : V w mi cc L cb sb h pc' (o0 :: o1 :: o2 :: o3 :: some (.long x) :: none :: t) st Q) : V w mi cc L cb sb h pc (o0 :: o1 :: o2 :: o3 :: o :: o' :: t) (.long x :: st) Q := by
  obtain ⟨d, rfl⟩ := d
  intro p l e R s m args below meth c H locs cells slots lsA F a1 a2 a3 a4 a5 a6 hl
  refine lv_lstore F.1 F.2.1 d hl (Nat.le_of_ble_eq_true hn) rfl (fun ls' hl' => k p l e R s m args below meth c H locs cells slots ls' F a1 a2 a3 a4 a5 a6 (zls.set2 (lsA := lsA) hl' (fun j u hj => zstore2 4 (o0 :: o1 :: o2 :: o3 :: o :: o' :: t) j u (.long x) rfl hj (fun q3 q1 y q2 => by
      obtain rfl : q3 = 3 := by omega
      have q4 : o3 = some y := Option.some.inj q2
      rw [← q4]; exact hp))))
theorem V_lstore5 {w : Wd} {mi : Mi} {cc : ByteArray} {L cb sb : Nat} {h : Hp} {pc pc' : Nat} {Q : Outcome → Hp → Prop} {o0 o1 o2 o3 o4 : Option Value} {o o' : Option Value} {t : List (Option Value)} {st : List Value} {x : Int64} (hp : znl o4 = true) (d : Dc cc pc (.lstore 5) 2 pc') (hn : Nat.blt 6 mi.2.1 = true) (k : V w mi cc L cb sb h pc' (o0 :: o1 :: o2 :: o3 :: o4 :: some (.long x) :: none :: t) st Q) : V w mi cc L cb sb h pc (o0 :: o1 :: o2 :: o3 :: o4 :: o :: o' :: t) (.long x :: st) Q := by
  obtain ⟨d, rfl⟩ := d
  intro p l e R s m args below meth c H locs cells slots lsA F a1 a2 a3 a4 a5 a6 hl
  refine lv_lstore F.1 F.2.1 d hl (Nat.le_of_ble_eq_true hn) rfl (fun ls' hl' => k p l e R s m args below meth c H locs cells slots ls' F a1 a2 a3 a4 a5 a6 (zls.set2 (lsA := lsA) hl' (fun j u hj => zstore2 5 (o0 :: o1 :: o2 :: o3 :: o4 :: o :: o' :: t) j u (.long x) rfl hj (fun q3 q1 y q2 => by
      obtain rfl : q3 = 4 := by omega
      have q4 : o4 = some y := Option.some.inj q2
      rw [← q4]; exact hp))))
theorem V_lstore6 {w : Wd} {mi : Mi} {cc : ByteArray} {L cb sb : Nat} {h : Hp} {pc pc' : Nat} {Q : Outcome → Hp → Prop} {o0 o1 o2 o3 o4 o5 : Option Value} {o o' : Option Value} {t : List (Option Value)} {st : List Value} {x : Int64} (hp : znl o5 = true) (d : Dc cc pc (.lstore 6) 2 pc') (hn : Nat.blt 7 mi.2.1 = true) (k : V w mi cc L cb sb h pc' (o0 :: o1 :: o2 :: o3 :: o4 :: o5 :: some (.long x) :: none :: t) st Q) : V w mi cc L cb sb h pc (o0 :: o1 :: o2 :: o3 :: o4 :: o5 :: o :: o' :: t) (.long x :: st) Q := by
  obtain ⟨d, rfl⟩ := d
  intro p l e R s m args below meth c H locs cells slots lsA F a1 a2 a3 a4 a5 a6 hl
  refine lv_lstore F.1 F.2.1 d hl (Nat.le_of_ble_eq_true hn) rfl (fun ls' hl' => k p l e R s m args below meth c H locs cells slots ls' F a1 a2 a3 a4 a5 a6 (zls.set2 (lsA := lsA) hl' (fun j u hj => zstore2 6 (o0 :: o1 :: o2 :: o3 :: o4 :: o5 :: o :: o' :: t) j u (.long x) rfl hj (fun q3 q1 y q2 => by
      obtain rfl : q3 = 5 := by omega
      have q4 : o5 = some y := Option.some.inj q2
      rw [← q4]; exact hp))))
theorem V_lstore7 {w : Wd} {mi : Mi} {cc : ByteArray} {L cb sb : Nat} {h : Hp} {pc pc' : Nat} {Q : Outcome → Hp → Prop} {o0 o1 o2 o3 o4 o5 o6 : Option Value} {o o' : Option Value} {t : List (Option Value)} {st : List Value} {x : Int64} (hp : znl o6 = true) (d : Dc cc pc (.lstore 7) 2 pc') (hn : Nat.blt 8 mi.2.1 = true) (k : V w mi cc L cb sb h pc' (o0 :: o1 :: o2 :: o3 :: o4 :: o5 :: o6 :: some (.long x) :: none :: t) st Q) : V w mi cc L cb sb h pc (o0 :: o1 :: o2 :: o3 :: o4 :: o5 :: o6 :: o :: o' :: t) (.long x :: st) Q := by
  obtain ⟨d, rfl⟩ := d
  intro p l e R s m args below meth c H locs cells slots lsA F a1 a2 a3 a4 a5 a6 hl
  refine lv_lstore F.1 F.2.1 d hl (Nat.le_of_ble_eq_true hn) rfl (fun ls' hl' => k p l e R s m args below meth c H locs cells slots ls' F a1 a2 a3 a4 a5 a6 (zls.set2 (lsA := lsA) hl' (fun j u hj => zstore2 7 (o0 :: o1 :: o2 :: o3 :: o4 :: o5 :: o6 :: o :: o' :: t) j u (.long x) rfl hj (fun q3 q1 y q2 => by
      obtain rfl : q3 = 6 := by omega
      have q4 : o6 = some y := Option.some.inj q2
      rw [← q4]; exact hp))))
theorem V_lstore8 {w : Wd} {mi : Mi} {cc : ByteArray} {L cb sb : Nat} {h : Hp} {pc pc' : Nat} {Q : Outcome → Hp → Prop} {o0 o1 o2 o3 o4 o5 o6 o7 : Option Value} {o o' : Option Value} {t : List (Option Value)} {st : List Value} {x : Int64} (hp : znl o7 = true) (d : Dc cc pc (.lstore 8) 2 pc') (hn : Nat.blt 9 mi.2.1 = true) (k : V w mi cc L cb sb h pc' (o0 :: o1 :: o2 :: o3 :: o4 :: o5 :: o6 :: o7 :: some (.long x) :: none :: t) st Q) : V w mi cc L cb sb h pc (o0 :: o1 :: o2 :: o3 :: o4 :: o5 :: o6 :: o7 :: o :: o' :: t) (.long x :: st) Q := by
  obtain ⟨d, rfl⟩ := d
  intro p l e R s m args below meth c H locs cells slots lsA F a1 a2 a3 a4 a5 a6 hl
  refine lv_lstore F.1 F.2.1 d hl (Nat.le_of_ble_eq_true hn) rfl (fun ls' hl' => k p l e R s m args below meth c H locs cells slots ls' F a1 a2 a3 a4 a5 a6 (zls.set2 (lsA := lsA) hl' (fun j u hj => zstore2 8 (o0 :: o1 :: o2 :: o3 :: o4 :: o5 :: o6 :: o7 :: o :: o' :: t) j u (.long x) rfl hj (fun q3 q1 y q2 => by
      obtain rfl : q3 = 7 := by omega
      have q4 : o7 = some y := Option.some.inj q2
      rw [← q4]; exact hp))))
theorem V_lstore9 {w : Wd} {mi : Mi} {cc : ByteArray} {L cb sb : Nat} {h : Hp} {pc pc' : Nat} {Q : Outcome → Hp → Prop} {o0 o1 o2 o3 o4 o5 o6 o7 o8 : Option Value} {o o' : Option Value} {t : List (Option Value)} {st : List Value} {x : Int64} (hp : znl o8 = true) (d : Dc cc pc (.lstore 9) 2 pc') (hn : Nat.blt 10 mi.2.1 = true) (k : V w mi cc L cb sb h pc' (o0 :: o1 :: o2 :: o3 :: o4 :: o5 :: o6 :: o7 :: o8 :: some (.long x) :: none :: t) st Q) : V w mi cc L cb sb h pc (o0 :: o1 :: o2 :: o3 :: o4 :: o5 :: o6 :: o7 :: o8 :: o :: o' :: t) (.long x :: st) Q := by
  obtain ⟨d, rfl⟩ := d
  intro p l e R s m args below meth c H locs cells slots lsA F a1 a2 a3 a4 a5 a6 hl
  refine lv_lstore F.1 F.2.1 d hl (Nat.le_of_ble_eq_true hn) rfl (fun ls' hl' => k p l e R s m args below meth c H locs cells slots ls' F a1 a2 a3 a4 a5 a6 (zls.set2 (lsA := lsA) hl' (fun j u hj => zstore2 9 (o0 :: o1 :: o2 :: o3 :: o4 :: o5 :: o6 :: o7 :: o8 :: o :: o' :: t) j u (.long x) rfl hj (fun q3 q1 y q2 => by
      obtain rfl : q3 = 8 := by omega
      have q4 : o8 = some y := Option.some.inj q2
      rw [← q4]; exact hp))))
theorem V_lstore10 {w : Wd} {mi : Mi} {cc : ByteArray} {L cb sb : Nat} {h : Hp} {pc pc' : Nat} {Q : Outcome → Hp → Prop} {o0 o1 o2 o3 o4 o5 o6 o7 o8 o9 : Option Value} {o o' : Option Value} {t : List (Option Value)} {st : List Value} {x : Int64} (hp : znl o9 = true) (d : Dc cc pc (.lstore 10) 2 pc') (hn : Nat.blt 11 mi.2.1 = true) (k : V w mi cc L cb sb h pc' (o0 :: o1 :: o2 :: o3 :: o4 :: o5 :: o6 :: o7 :: o8 :: o9 :: some (.long x) :: none :: t) st Q) : V w mi cc L cb sb h pc (o0 :: o1 :: o2 :: o3 :: o4 :: o5 :: o6 :: o7 :: o8 :: o9 :: o :: o' :: t) (.long x :: st) Q := by
  obtain ⟨d, rfl⟩ := d
  intro p l e R s m args below meth c H locs cells slots lsA F a1 a2 a3 a4 a5 a6 hl
  refine lv_lstore F.1 F.2.1 d hl (Nat.le_of_ble_eq_true hn) rfl (fun ls' hl' => k p l e R s m args below meth c H locs cells slots ls' F a1 a2 a3 a4 a5 a6 (zls.set2 (lsA := lsA) hl' (fun j u hj => zstore2 10 (o0 :: o1 :: o2 :: o3 :: o4 :: o5 :: o6 :: o7 :: o8 :: o9 :: o :: o' :: t) j u (.long x) rfl hj (fun q3 q1 y q2 => by
      obtain rfl : q3 = 9 := by omega
      have q4 : o9 = some y := Option.some.inj q2
      rw [← q4]; exact hp))))
theorem V_lstore11 {w : Wd} {mi : Mi} {cc : ByteArray} {L cb sb : Nat} {h : Hp} {pc pc' : Nat} {Q : Outcome → Hp → Prop} {o0 o1 o2 o3 o4 o5 o6 o7 o8 o9 o10 : Option Value} {o o' : Option Value} {t : List (Option Value)} {st : List Value} {x : Int64} (hp : znl o10 = true) (d : Dc cc pc (.lstore 11) 2 pc') (hn : Nat.blt 12 mi.2.1 = true) (k : V w mi cc L cb sb h pc' (o0 :: o1 :: o2 :: o3 :: o4 :: o5 :: o6 :: o7 :: o8 :: o9 :: o10 :: some (.long x) :: none :: t) st Q) : V w mi cc L cb sb h pc (o0 :: o1 :: o2 :: o3 :: o4 :: o5 :: o6 :: o7 :: o8 :: o9 :: o10 :: o :: o' :: t) (.long x :: st) Q := by
  obtain ⟨d, rfl⟩ := d
  intro p l e R s m args below meth c H locs cells slots lsA F a1 a2 a3 a4 a5 a6 hl
  refine lv_lstore F.1 F.2.1 d hl (Nat.le_of_ble_eq_true hn) rfl (fun ls' hl' => k p l e R s m args below meth c H locs cells slots ls' F a1 a2 a3 a4 a5 a6 (zls.set2 (lsA := lsA) hl' (fun j u hj => zstore2 11 (o0 :: o1 :: o2 :: o3 :: o4 :: o5 :: o6 :: o7 :: o8 :: o9 :: o10 :: o :: o' :: t) j u (.long x) rfl hj (fun q3 q1 y q2 => by
      obtain rfl : q3 = 10 := by omega
      have q4 : o10 = some y := Option.some.inj q2
      rw [← q4]; exact hp))))
theorem V_lstore12 {w : Wd} {mi : Mi} {cc : ByteArray} {L cb sb : Nat} {h : Hp} {pc pc' : Nat} {Q : Outcome → Hp → Prop} {o0 o1 o2 o3 o4 o5 o6 o7 o8 o9 o10 o11 : Option Value} {o o' : Option Value} {t : List (Option Value)} {st : List Value} {x : Int64} (hp : znl o11 = true) (d : Dc cc pc (.lstore 12) 2 pc') (hn : Nat.blt 13 mi.2.1 = true) (k : V w mi cc L cb sb h pc' (o0 :: o1 :: o2 :: o3 :: o4 :: o5 :: o6 :: o7 :: o8 :: o9 :: o10 :: o11 :: some (.long x) :: none :: t) st Q) : V w mi cc L cb sb h pc (o0 :: o1 :: o2 :: o3 :: o4 :: o5 :: o6 :: o7 :: o8 :: o9 :: o10 :: o11 :: o :: o' :: t) (.long x :: st) Q := by
  obtain ⟨d, rfl⟩ := d
  intro p l e R s m args below meth c H locs cells slots lsA F a1 a2 a3 a4 a5 a6 hl
  refine lv_lstore F.1 F.2.1 d hl (Nat.le_of_ble_eq_true hn) rfl (fun ls' hl' => k p l e R s m args below meth c H locs cells slots ls' F a1 a2 a3 a4 a5 a6 (zls.set2 (lsA := lsA) hl' (fun j u hj => zstore2 12 (o0 :: o1 :: o2 :: o3 :: o4 :: o5 :: o6 :: o7 :: o8 :: o9 :: o10 :: o11 :: o :: o' :: t) j u (.long x) rfl hj (fun q3 q1 y q2 => by
      obtain rfl : q3 = 11 := by omega
      have q4 : o11 = some y := Option.some.inj q2
      rw [← q4]; exact hp))))
theorem V_lstore13 {w : Wd} {mi : Mi} {cc : ByteArray} {L cb sb : Nat} {h : Hp} {pc pc' : Nat} {Q : Outcome → Hp → Prop} {o0 o1 o2 o3 o4 o5 o6 o7 o8 o9 o10 o11 o12 : Option Value} {o o' : Option Value} {t : List (Option Value)} {st : List Value} {x : Int64} (hp : znl o12 = true) (d : Dc cc pc (.lstore 13) 2 pc') (hn : Nat.blt 14 mi.2.1 = true) (k : V w mi cc L cb sb h pc' (o0 :: o1 :: o2 :: o3 :: o4 :: o5 :: o6 :: o7 :: o8 :: o9 :: o10 :: o11 :: o12 :: some (.long x) :: none :: t) st Q) : V w mi cc L cb sb h pc (o0 :: o1 :: o2 :: o3 :: o4 :: o5 :: o6 :: o7 :: o8 :: o9 :: o10 :: o11 :: o12 :: o :: o' :: t) (.long x :: st) Q := by
  obtain ⟨d, rfl⟩ := d
  intro p l e R s m args below meth c H locs cells slots lsA F a1 a2 a3 a4 a5 a6 hl
  refine lv_lstore F.1 F.2.1 d hl (Nat.le_of_ble_eq_true hn) rfl (fun ls' hl' => k p l e R s m args below meth c H locs cells slots ls' F a1 a2 a3 a4 a5 a6 (zls.set2 (lsA := lsA) hl' (fun j u hj => zstore2 13 (o0 :: o1 :: o2 :: o3 :: o4 :: o5 :: o6 :: o7 :: o8 :: o9 :: o10 :: o11 :: o12 :: o :: o' :: t) j u (.long x) rfl hj (fun q3 q1 y q2 => by
      obtain rfl : q3 = 12 := by omega
      have q4 : o12 = some y := Option.some.inj q2
      rw [← q4]; exact hp))))
theorem V_lstore14 {w : Wd} {mi : Mi} {cc : ByteArray} {L cb sb : Nat} {h : Hp} {pc pc' : Nat} {Q : Outcome → Hp → Prop} {o0 o1 o2 o3 o4 o5 o6 o7 o8 o9 o10 o11 o12 o13 : Option Value} {o o' : Option Value} {t : List (Option Value)} {st : List Value} {x : Int64} (hp : znl o13 = true) (d : Dc cc pc (.lstore 14) 2 pc') (hn : Nat.blt 15 mi.2.1 = true) (k : V w mi cc L cb sb h pc' (o0 :: o1 :: o2 :: o3 :: o4 :: o5 :: o6 :: o7 :: o8 :: o9 :: o10 :: o11 :: o12 :: o13 :: some (.long x) :: none :: t) st Q) : V w mi cc L cb sb h pc (o0 :: o1 :: o2 :: o3 :: o4 :: o5 :: o6 :: o7 :: o8 :: o9 :: o10 :: o11 :: o12 :: o13 :: o :: o' :: t) (.long x :: st) Q := by
  obtain ⟨d, rfl⟩ := d
  intro p l e R s m args below meth c H locs cells slots lsA F a1 a2 a3 a4 a5 a6 hl
  refine lv_lstore F.1 F.2.1 d hl (Nat.le_of_ble_eq_true hn) rfl (fun ls' hl' => k p l e R s m args below meth c H locs cells slots ls' F a1 a2 a3 a4 a5 a6 (zls.set2 (lsA := lsA) hl' (fun j u hj => zstore2 14 (o0 :: o1 :: o2 :: o3 :: o4 :: o5 :: o6 :: o7 :: o8 :: o9 :: o10 :: o11 :: o12 :: o13 :: o :: o' :: t) j u (.long x) rfl hj (fun q3 q1 y q2 => by
      obtain rfl : q3 = 13 := by omega
      have q4 : o13 = some y := Option.some.inj q2
      rw [← q4]; exact hp))))
theorem V_lstore15 {w : Wd} {mi : Mi} {cc : ByteArray} {L cb sb : Nat} {h : Hp} {pc pc' : Nat} {Q : Outcome → Hp → Prop} {o0 o1 o2 o3 o4 o5 o6 o7 o8 o9 o10 o11 o12 o13 o14 : Option Value} {o o' : Option Value} {t : List (Option Value)} {st : List Value} {x : Int64} (hp : znl o14 = true) (d : Dc cc pc (.lstore 15) 2 pc') (hn : Nat.blt 16 mi.2.1 = true) (k : V w mi cc L cb sb h pc' (o0 :: o1 :: o2 :: o3 :: o4 :: o5 :: o6 :: o7 :: o8 :: o9 :: o10 :: o11 :: o12 :: o13 :: o14 :: some (.long x) :: none :: t) st Q) : V w mi cc L cb sb h pc (o0 :: o1 :: o2 :: o3 :: o4 :: o5 :: o6 :: o7 :: o8 :: o9 :: o10 :: o11 :: o12 :: o13 :: o14 :: o :: o' :: t) (.long x :: st) Q := by
  obtain ⟨d, rfl⟩ := d
  intro p l e R s m args below meth c H locs cells slots lsA F a1 a2 a3 a4 a5 a6 hl
  refine lv_lstore F.1 F.2.1 d hl (Nat.le_of_ble_eq_true hn) rfl (fun ls' hl' => k p l e R s m args below meth c H locs cells slots ls' F a1 a2 a3 a4 a5 a6 (zls.set2 (lsA := lsA) hl' (fun j u hj => zstore2 15 (o0 :: o1 :: o2 :: o3 :: o4 :: o5 :: o6 :: o7 :: o8 :: o9 :: o10 :: o11 :: o12 :: o13 :: o14 :: o :: o' :: t) j u (.long x) rfl hj (fun q3 q1 y q2 => by
      obtain rfl : q3 = 14 := by omega
      have q4 : o14 = some y := Option.some.inj q2
      rw [← q4]; exact hp))))
theorem V_lstore16 {w : Wd} {mi : Mi} {cc : ByteArray} {L cb sb : Nat} {h : Hp} {pc pc' : Nat} {Q : Outcome → Hp → Prop} {o0 o1 o2 o3 o4 o5 o6 o7 o8 o9 o10 o11 o12 o13 o14 o15 : Option Value} {o o' : Option Value} {t : List (Option Value)} {st : List Value} {x : Int64} (hp : znl o15 = true) (d : Dc cc pc (.lstore 16) 2 pc') (hn : Nat.blt 17 mi.2.1 = true) (k : V w mi cc L cb sb h pc' (o0 :: o1 :: o2 :: o3 :: o4 :: o5 :: o6 :: o7 :: o8 :: o9 :: o10 :: o11 :: o12 :: o13 :: o14 :: o15 :: some (.long x) :: none :: t) st Q) : V w mi cc L cb sb h pc (o0 :: o1 :: o2 :: o3 :: o4 :: o5 :: o6 :: o7 :: o8 :: o9 :: o10 :: o11 :: o12 :: o13 :: o14 :: o15 :: o :: o' :: t) (.long x :: st) Q := by
  obtain ⟨d, rfl⟩ := d
  intro p l e R s m args below meth c H locs cells slots lsA F a1 a2 a3 a4 a5 a6 hl
  refine lv_lstore F.1 F.2.1 d hl (Nat.le_of_ble_eq_true hn) rfl (fun ls' hl' => k p l e R s m args below meth c H locs cells slots ls' F a1 a2 a3 a4 a5 a6 (zls.set2 (lsA := lsA) hl' (fun j u hj => zstore2 16 (o0 :: o1 :: o2 :: o3 :: o4 :: o5 :: o6 :: o7 :: o8 :: o9 :: o10 :: o11 :: o12 :: o13 :: o14 :: o15 :: o :: o' :: t) j u (.long x) rfl hj (fun q3 q1 y q2 => by
      obtain rfl : q3 = 15 := by omega
      have q4 : o15 = some y := Option.some.inj q2
      rw [← q4]; exact hp))))
