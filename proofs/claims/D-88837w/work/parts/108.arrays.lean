/-! arrays -/
def zak (κ : Nat) : Option Nat := if 100 ≤ κ then if κ < 650 then some ((κ - 100) / 50) else if 700 ≤ κ then if κ < 711 then some (κ - 700) else none else none else none
theorem RelH.arr {w : Wd} {h : Hp} {H : Heap} {a κ c : Nat} (r : RelH w h H) (ha : a < hZ h) (hk : zkd (hT h a) = κ) (hc : zak κ = some c) : zAB w c h H a := by
  obtain ⟨-, r2, r3⟩ := r.2.2.2 a ha
  rw [hk] at r2 r3
  unfold zak at hc
  split at hc
  · split at hc
    · cases hc
      exact (r2 (by assumption) (by assumption)).2
    · split at hc
      · split at hc
        · have e := Option.some.inj hc
          rw [← e]
          exact r3 (by assumption) (by assumption)
        · cases hc
      · cases hc
  · cases hc
theorem RelH.arrB {w : Wd} {h : Hp} {H : Heap} {a κ c : Nat} (r : RelH w h H) (ha : a < hZ h) (hk : zkd (hT h a) = κ) (hc : zak κ = some c) (hm : Nat.blt κ 650 = true) : w.H.size ≤ a := by
  obtain ⟨-, r2, -⟩ := r.2.2.2 a ha
  have hm' : κ < 650 := Nat.le_of_ble_eq_true hm
  rw [hk] at r2
  unfold zak at hc
  split at hc
  · exact (r2 (by assumption) hm').1
  · cases hc
theorem zak_lt {κ c : Nat} (hc : zak κ = some c) : c < 11 := by
  unfold zak at hc
  split at hc
  · split at hc
    · cases hc
      omega
    · split at hc
      · split at hc
        · have e := Option.some.inj hc
          omega
        · cases hc
      · cases hc
  · cases hc
/-- one place of an array changes, on both heaps -/
theorem RelH.putA {w : Wd} {h h' : Hp} {H H' : Heap} {a κ c n : Nat} {v : Value} (r : RelH w h H) (ha : a < hZ h) (hk : zkd (hT h a) = κ) (hc : zak κ = some c) (hm : Nat.blt κ 650 = true)
    (e1 : H'[a]? = some ((arrV (w.A c) (hN h a) (fun j => zfv (zat c) (hI h a j) (hL h a j) (hR h a j))).setSlot n v)) (hs : H'.size = H.size) (ho : ∀ q : Nat, q ≠ a → H'[q]? = H[q]?)
    (ez : hZ h' = hZ h) (et : hT h' a = hT h a) (en : hN h' a = hN h a) (hh : ∀ b, b ≠ a → hT h' b = hT h b ∧ hN h' b = hN h b ∧ hI h' b = hI h b ∧ hL h' b = hL h b ∧ hR h' b = hR h b)
    (hv : zfv (zat c) (hI h' a n) (hL h' a n) (hR h' a n) = v) (hu : ∀ i, i ≠ n → hI h' a i = hI h a i ∧ hL h' a i = hL h a i ∧ hR h' a i = hR h a i) : RelH w h' H' := by
  have hb := r.arrB ha hk hc hm
  refine r.set hb hs ho ez et hh fun _ => ?_
  have hm' : κ < 650 := Nat.le_of_ble_eq_true hm
  have hab : zAB w c h' H' a := by
    unfold zAB
    rw [e1, arrV_store, en]
    congr 2
    funext j
    unfold updV
    by_cases e : j = n
    · subst e
      rw [if_pos rfl, hv]
    · obtain ⟨u1, u2, u3⟩ := hu j e
      rw [if_neg e, u1, u2, u3]
  refine ⟨fun h1 => ?_, fun h1 h2 => ?_, fun h1 => ?_⟩
  · rw [et, hk] at h1
    unfold zak at hc
    rw [if_neg (by omega)] at hc
    cases hc
  · rw [et, hk] at h1 h2 ⊢
    unfold zak at hc
    rw [if_pos h1, if_pos h2] at hc
    cases hc
    exact ⟨hb, hab⟩
  · rw [et, hk] at h1
    omega
section ARR
variable {w : Wd} {mi : Mi} {cc : ByteArray} {L cb sb : Nat} {h : Hp} {pc pc' κ : Nat} {ls : List (Option Value)} {st : List Value} {Q : Outcome → Hp → Prop} {a n : Nat} {i : Int32}
theorem V_iaload (d : Dc cc pc .iaload 1 pc') (ha : a < hZ h) (hk : zkd (hT h a) = κ) (hc : zak κ = some 0) (hin : vp_in i (hN h a)) (hn : i.toNatClampNeg = n) (kk : V w mi cc L cb sb h pc' ls (.int (hI h a n) :: st) Q) : V w mi cc L cb sb h pc ls (.int i :: .ref a :: st) Q := by
  obtain ⟨d, rfl⟩ := d
  intro p l e R s m args below meth c H locs cells slots lsA F a1 a2 a3 a4 a5 a6 hl
  have kw := kk p l e R s m args below meth c H locs cells slots lsA F a1 a2 a3 a4 a5 a6 hl
  obtain ⟨f1, f2, -, -, -, f6, -, hK, -⟩ := F
  have hA := a1.arr ha hk hc
  have hlt : i.toNatClampNeg < hN h a := by
    rcases Nat.lt_or_ge i.toNatClampNeg (hN h a) with q | q
    · exact q
    · exact absurd (Or.inr q) hin
  subst hn
  exact W.iald f1 f2 hA ((hK.2.2.2.1 0 (by decide)).arr _ _) (fun q => by cases q) (by rw [arrV_size]; exact hin) (by rw [arrV_read _ _ hlt]; rfl) rfl rfl d kw
theorem V_laload (d : Dc cc pc .laload 1 pc') (ha : a < hZ h) (hk : zkd (hT h a) = κ) (hc : zak κ = some 1) (hin : vp_in i (hN h a)) (hn : i.toNatClampNeg = n) (kk : V w mi cc L cb sb h pc' ls (.long (hL h a n) :: st) Q) : V w mi cc L cb sb h pc ls (.int i :: .ref a :: st) Q := by
  obtain ⟨d, rfl⟩ := d
  intro p l e R s m args below meth c H locs cells slots lsA F a1 a2 a3 a4 a5 a6 hl
  have kw := kk p l e R s m args below meth c H locs cells slots lsA F a1 a2 a3 a4 a5 a6 hl
  obtain ⟨f1, f2, -, -, -, f6, -, hK, -⟩ := F
  have hA := a1.arr ha hk hc
  have hlt : i.toNatClampNeg < hN h a := by
    rcases Nat.lt_or_ge i.toNatClampNeg (hN h a) with q | q
    · exact q
    · exact absurd (Or.inr q) hin
  subst hn
  exact W.lald f1 f2 hA ((hK.2.2.2.1 1 (by decide)).arr _ _) (fun q => by cases q) (by rw [arrV_size]; exact hin) (by rw [arrV_read _ _ hlt]; rfl) rfl rfl d kw
theorem V_baload (d : Dc cc pc .baload 1 pc') (ha : a < hZ h) (hk : zkd (hT h a) = κ) (hc : zak κ = some 2) (hin : vp_in i (hN h a)) (hn : i.toNatClampNeg = n) (kk : V w mi cc L cb sb h pc' ls (.int (hI h a n) :: st) Q) : V w mi cc L cb sb h pc ls (.int i :: .ref a :: st) Q := by
  obtain ⟨d, rfl⟩ := d
  intro p l e R s m args below meth c H locs cells slots lsA F a1 a2 a3 a4 a5 a6 hl
  have kw := kk p l e R s m args below meth c H locs cells slots lsA F a1 a2 a3 a4 a5 a6 hl
  obtain ⟨f1, f2, -, -, -, f6, -, hK, -⟩ := F
  have hA := a1.arr ha hk hc
  have hlt : i.toNatClampNeg < hN h a := by
    rcases Nat.lt_or_ge i.toNatClampNeg (hN h a) with q | q
    · exact q
    · exact absurd (Or.inr q) hin
  subst hn
  exact W.bald f1 f2 hA ((hK.2.2.2.1 2 (by decide)).arr _ _) (fun q => by cases q) (by rw [arrV_size]; exact hin) (by rw [arrV_read _ _ hlt]; rfl) rfl rfl d kw
theorem V_saload (d : Dc cc pc .saload 1 pc') (ha : a < hZ h) (hk : zkd (hT h a) = κ) (hc : zak κ = some 3) (hin : vp_in i (hN h a)) (hn : i.toNatClampNeg = n) (kk : V w mi cc L cb sb h pc' ls (.int (hI h a n) :: st) Q) : V w mi cc L cb sb h pc ls (.int i :: .ref a :: st) Q := by
  obtain ⟨d, rfl⟩ := d
  intro p l e R s m args below meth c H locs cells slots lsA F a1 a2 a3 a4 a5 a6 hl
  have kw := kk p l e R s m args below meth c H locs cells slots lsA F a1 a2 a3 a4 a5 a6 hl
  obtain ⟨f1, f2, -, -, -, f6, -, hK, -⟩ := F
  have hA := a1.arr ha hk hc
  have hlt : i.toNatClampNeg < hN h a := by
    rcases Nat.lt_or_ge i.toNatClampNeg (hN h a) with q | q
    · exact q
    · exact absurd (Or.inr q) hin
  subst hn
  exact W.sald f1 f2 hA ((hK.2.2.2.1 3 (by decide)).arr _ _) (fun q => by cases q) (by rw [arrV_size]; exact hin) (by rw [arrV_read _ _ hlt]; rfl) rfl rfl d kw
theorem V_caload (d : Dc cc pc .caload 1 pc') (ha : a < hZ h) (hk : zkd (hT h a) = κ) (hc : zak κ = some 4) (hin : vp_in i (hN h a)) (hn : i.toNatClampNeg = n) (kk : V w mi cc L cb sb h pc' ls (.int (hI h a n) :: st) Q) : V w mi cc L cb sb h pc ls (.int i :: .ref a :: st) Q := by
  obtain ⟨d, rfl⟩ := d
  intro p l e R s m args below meth c H locs cells slots lsA F a1 a2 a3 a4 a5 a6 hl
  have kw := kk p l e R s m args below meth c H locs cells slots lsA F a1 a2 a3 a4 a5 a6 hl
  obtain ⟨f1, f2, -, -, -, f6, -, hK, -⟩ := F
  have hA := a1.arr ha hk hc
  have hlt : i.toNatClampNeg < hN h a := by
    rcases Nat.lt_or_ge i.toNatClampNeg (hN h a) with q | q
    · exact q
    · exact absurd (Or.inr q) hin
  subst hn
  exact W.cald f1 f2 hA ((hK.2.2.2.1 4 (by decide)).arr _ _) (fun q => by cases q) (by rw [arrV_size]; exact hin) (by rw [arrV_read _ _ hlt]; rfl) rfl rfl d kw
theorem V_zaload (d : Dc cc pc .baload 1 pc') (ha : a < hZ h) (hk : zkd (hT h a) = κ) (hc : zak κ = some 5) (hin : vp_in i (hN h a)) (hn : i.toNatClampNeg = n) (kk : V w mi cc L cb sb h pc' ls (.int (hI h a n) :: st) Q) : V w mi cc L cb sb h pc ls (.int i :: .ref a :: st) Q := by
  obtain ⟨d, rfl⟩ := d
  intro p l e R s m args below meth c H locs cells slots lsA F a1 a2 a3 a4 a5 a6 hl
  have kw := kk p l e R s m args below meth c H locs cells slots lsA F a1 a2 a3 a4 a5 a6 hl
  obtain ⟨f1, f2, -, -, -, f6, -, hK, -⟩ := F
  have hA := a1.arr ha hk hc
  have hlt : i.toNatClampNeg < hN h a := by
    rcases Nat.lt_or_ge i.toNatClampNeg (hN h a) with q | q
    · exact q
    · exact absurd (Or.inr q) hin
  subst hn
  exact W.zald f1 f2 hA ((hK.2.2.2.1 5 (by decide)).arr _ _) (fun q => by cases q) (by rw [arrV_size]; exact hin) (by rw [arrV_read _ _ hlt]; rfl) rfl rfl d kw
theorem V_aaload6 (d : Dc cc pc .aaload 1 pc') (ha : a < hZ h) (hk : zkd (hT h a) = κ) (hc : zak κ = some 6) (hin : vp_in i (hN h a)) (hn : i.toNatClampNeg = n) (kk : V w mi cc L cb sb h pc' ls (va_rf (hR h a n) :: st) Q) : V w mi cc L cb sb h pc ls (.int i :: .ref a :: st) Q := by
  obtain ⟨d, rfl⟩ := d
  intro p l e R s m args below meth c H locs cells slots lsA F a1 a2 a3 a4 a5 a6 hl
  have kw := kk p l e R s m args below meth c H locs cells slots lsA F a1 a2 a3 a4 a5 a6 hl
  obtain ⟨f1, f2, -, -, -, f6, -, hK, -⟩ := F
  have hA := a1.arr ha hk hc
  have hlt : i.toNatClampNeg < hN h a := by
    rcases Nat.lt_or_ge i.toNatClampNeg (hN h a) with q | q
    · exact q
    · exact absurd (Or.inr q) hin
  subst hn
  exact W.aald f1 f2 hA ((hK.2.2.2.1 6 (by decide)).arr _ _) (by rfl) (fun q => by cases q) (by rw [arrV_size]; exact hin) (by rw [arrV_read _ _ hlt]; rfl) rfl rfl d kw
theorem V_aaload7 (d : Dc cc pc .aaload 1 pc') (ha : a < hZ h) (hk : zkd (hT h a) = κ) (hc : zak κ = some 7) (hin : vp_in i (hN h a)) (hn : i.toNatClampNeg = n) (kk : V w mi cc L cb sb h pc' ls (va_rf (hR h a n) :: st) Q) : V w mi cc L cb sb h pc ls (.int i :: .ref a :: st) Q := by
  obtain ⟨d, rfl⟩ := d
  intro p l e R s m args below meth c H locs cells slots lsA F a1 a2 a3 a4 a5 a6 hl
  have kw := kk p l e R s m args below meth c H locs cells slots lsA F a1 a2 a3 a4 a5 a6 hl
  obtain ⟨f1, f2, -, -, -, f6, -, hK, -⟩ := F
  have hA := a1.arr ha hk hc
  have hlt : i.toNatClampNeg < hN h a := by
    rcases Nat.lt_or_ge i.toNatClampNeg (hN h a) with q | q
    · exact q
    · exact absurd (Or.inr q) hin
  subst hn
  exact W.aald f1 f2 hA ((hK.2.2.2.1 7 (by decide)).arr _ _) (by rfl) (fun q => by cases q) (by rw [arrV_size]; exact hin) (by rw [arrV_read _ _ hlt]; rfl) rfl rfl d kw
theorem V_aaload8 (d : Dc cc pc .aaload 1 pc') (ha : a < hZ h) (hk : zkd (hT h a) = κ) (hc : zak κ = some 8) (hin : vp_in i (hN h a)) (hn : i.toNatClampNeg = n) (kk : V w mi cc L cb sb h pc' ls (va_rf (hR h a n) :: st) Q) : V w mi cc L cb sb h pc ls (.int i :: .ref a :: st) Q := by
  obtain ⟨d, rfl⟩ := d
  intro p l e R s m args below meth c H locs cells slots lsA F a1 a2 a3 a4 a5 a6 hl
  have kw := kk p l e R s m args below meth c H locs cells slots lsA F a1 a2 a3 a4 a5 a6 hl
  obtain ⟨f1, f2, -, -, -, f6, -, hK, -⟩ := F
  have hA := a1.arr ha hk hc
  have hlt : i.toNatClampNeg < hN h a := by
    rcases Nat.lt_or_ge i.toNatClampNeg (hN h a) with q | q
    · exact q
    · exact absurd (Or.inr q) hin
  subst hn
  exact W.aald f1 f2 hA ((hK.2.2.2.1 8 (by decide)).arr _ _) (by rfl) (fun q => by cases q) (by rw [arrV_size]; exact hin) (by rw [arrV_read _ _ hlt]; rfl) rfl rfl d kw
theorem V_aaload9 (d : Dc cc pc .aaload 1 pc') (ha : a < hZ h) (hk : zkd (hT h a) = κ) (hc : zak κ = some 9) (hin : vp_in i (hN h a)) (hn : i.toNatClampNeg = n) (kk : V w mi cc L cb sb h pc' ls (va_rf (hR h a n) :: st) Q) : V w mi cc L cb sb h pc ls (.int i :: .ref a :: st) Q := by
  obtain ⟨d, rfl⟩ := d
  intro p l e R s m args below meth c H locs cells slots lsA F a1 a2 a3 a4 a5 a6 hl
  have kw := kk p l e R s m args below meth c H locs cells slots lsA F a1 a2 a3 a4 a5 a6 hl
  obtain ⟨f1, f2, -, -, -, f6, -, hK, -⟩ := F
  have hA := a1.arr ha hk hc
  have hlt : i.toNatClampNeg < hN h a := by
    rcases Nat.lt_or_ge i.toNatClampNeg (hN h a) with q | q
    · exact q
    · exact absurd (Or.inr q) hin
  subst hn
  exact W.aald f1 f2 hA ((hK.2.2.2.1 9 (by decide)).arr _ _) (by rfl) (fun q => by cases q) (by rw [arrV_size]; exact hin) (by rw [arrV_read _ _ hlt]; rfl) rfl rfl d kw
theorem V_aaload10 (d : Dc cc pc .aaload 1 pc') (ha : a < hZ h) (hk : zkd (hT h a) = κ) (hc : zak κ = some 10) (hin : vp_in i (hN h a)) (hn : i.toNatClampNeg = n) (kk : V w mi cc L cb sb h pc' ls (va_rf (hR h a n) :: st) Q) : V w mi cc L cb sb h pc ls (.int i :: .ref a :: st) Q := by
  obtain ⟨d, rfl⟩ := d
  intro p l e R s m args below meth c H locs cells slots lsA F a1 a2 a3 a4 a5 a6 hl
  have kw := kk p l e R s m args below meth c H locs cells slots lsA F a1 a2 a3 a4 a5 a6 hl
  obtain ⟨f1, f2, -, -, -, f6, -, hK, -⟩ := F
  have hA := a1.arr ha hk hc
  have hlt : i.toNatClampNeg < hN h a := by
    rcases Nat.lt_or_ge i.toNatClampNeg (hN h a) with q | q
    · exact q
    · exact absurd (Or.inr q) hin
  subst hn
  exact W.aald f1 f2 hA ((hK.2.2.2.1 10 (by decide)).arr _ _) (by rfl) (fun q => by cases q) (by rw [arrV_size]; exact hin) (by rw [arrV_read _ _ hlt]; rfl) rfl rfl d kw
theorem V_iastore {x : Int32} (d : Dc cc pc .iastore 1 pc') (ha : a < hZ h) (hk : zkd (hT h a) = κ) (hc : zak κ = some 0) (hm : Nat.blt κ 650 = true) (hin : vp_in i (hN h a)) (hn : i.toNatClampNeg = n) (kk : V w mi cc L cb sb (wI h a (va_up (hI h a) n (x))) pc' ls st Q) : V w mi cc L cb sb h pc ls (.int x :: .int i :: .ref a :: st) Q := by
  obtain ⟨d, rfl⟩ := d
  intro p l e R s m args below meth c H locs cells slots lsA F a1 a2 a3 a4 a5 a6 hl
  obtain ⟨f1, f2, -, -, -, f6, -, hK, -⟩ := id F
  have hA := a1.arr ha hk hc
  subst hn
  refine W.iast f1 f2 hA ((hK.2.2.2.1 0 (by decide)).arr _ _) (fun q => by cases q) (by rw [arrV_size]; exact hin) rfl rfl d (fun H' e1 e2 e3 => ?_)
  refine kk p l e R s m args below meth c H' _ cells slots lsA F (a1.putA ha hk hc hm e1 e2 e3 rfl rfl rfl (wI_oth h a _) (by rw [hI_wIs, va_up_self]; rfl) (fun j hj => ⟨by rw [hI_wIs]; exact va_up_oth _ _ _ _ hj, rfl, rfl⟩)) (fun q hq => ?_) a3 a4 a5 a6 hl
  rcases List.mem_append.mp hq with h1 | h1
  · exact a2 q h1
  · rw [List.mem_singleton.mp h1]; exact a1.arrB ha hk hc hm
theorem V_lastore {x : Int64} (d : Dc cc pc .lastore 1 pc') (ha : a < hZ h) (hk : zkd (hT h a) = κ) (hc : zak κ = some 1) (hm : Nat.blt κ 650 = true) (hin : vp_in i (hN h a)) (hn : i.toNatClampNeg = n) (kk : V w mi cc L cb sb (wL h a (va_up (hL h a) n (x))) pc' ls st Q) : V w mi cc L cb sb h pc ls (.long x :: .int i :: .ref a :: st) Q := by
  obtain ⟨d, rfl⟩ := d
  intro p l e R s m args below meth c H locs cells slots lsA F a1 a2 a3 a4 a5 a6 hl
  obtain ⟨f1, f2, -, -, -, f6, -, hK, -⟩ := id F
  have hA := a1.arr ha hk hc
  subst hn
  refine W.last f1 f2 hA ((hK.2.2.2.1 1 (by decide)).arr _ _) (fun q => by cases q) (by rw [arrV_size]; exact hin) rfl rfl d (fun H' e1 e2 e3 => ?_)
  refine kk p l e R s m args below meth c H' _ cells slots lsA F (a1.putA ha hk hc hm e1 e2 e3 rfl rfl rfl (wL_oth h a _) (by rw [hL_wLs, va_up_self]; rfl) (fun j hj => ⟨rfl, by rw [hL_wLs]; exact va_up_oth _ _ _ _ hj, rfl⟩)) (fun q hq => ?_) a3 a4 a5 a6 hl
  rcases List.mem_append.mp hq with h1 | h1
  · exact a2 q h1
  · rw [List.mem_singleton.mp h1]; exact a1.arrB ha hk hc hm
theorem V_bastore {x : Int32} (d : Dc cc pc .bastore 1 pc') (ha : a < hZ h) (hk : zkd (hT h a) = κ) (hc : zak κ = some 2) (hm : Nat.blt κ 650 = true) (hin : vp_in i (hN h a)) (hn : i.toNatClampNeg = n) (kk : V w mi cc L cb sb (wI h a (va_up (hI h a) n (x.toInt8.toInt32))) pc' ls st Q) : V w mi cc L cb sb h pc ls (.int x :: .int i :: .ref a :: st) Q := by
  obtain ⟨d, rfl⟩ := d
  intro p l e R s m args below meth c H locs cells slots lsA F a1 a2 a3 a4 a5 a6 hl
  obtain ⟨f1, f2, -, -, -, f6, -, hK, -⟩ := id F
  have hA := a1.arr ha hk hc
  subst hn
  refine W.bast f1 f2 hA ((hK.2.2.2.1 2 (by decide)).arr _ _) (fun q => by cases q) (by rw [arrV_size]; exact hin) rfl rfl d (fun H' e1 e2 e3 => ?_)
  refine kk p l e R s m args below meth c H' _ cells slots lsA F (a1.putA ha hk hc hm e1 e2 e3 rfl rfl rfl (wI_oth h a _) (by rw [hI_wIs, va_up_self]; rfl) (fun j hj => ⟨by rw [hI_wIs]; exact va_up_oth _ _ _ _ hj, rfl, rfl⟩)) (fun q hq => ?_) a3 a4 a5 a6 hl
  rcases List.mem_append.mp hq with h1 | h1
  · exact a2 q h1
  · rw [List.mem_singleton.mp h1]; exact a1.arrB ha hk hc hm
theorem V_sastore {x : Int32} (d : Dc cc pc .sastore 1 pc') (ha : a < hZ h) (hk : zkd (hT h a) = κ) (hc : zak κ = some 3) (hm : Nat.blt κ 650 = true) (hin : vp_in i (hN h a)) (hn : i.toNatClampNeg = n) (kk : V w mi cc L cb sb (wI h a (va_up (hI h a) n (x.toInt16.toInt32))) pc' ls st Q) : V w mi cc L cb sb h pc ls (.int x :: .int i :: .ref a :: st) Q := by
  obtain ⟨d, rfl⟩ := d
  intro p l e R s m args below meth c H locs cells slots lsA F a1 a2 a3 a4 a5 a6 hl
  obtain ⟨f1, f2, -, -, -, f6, -, hK, -⟩ := id F
  have hA := a1.arr ha hk hc
  subst hn
  refine W.sast f1 f2 hA ((hK.2.2.2.1 3 (by decide)).arr _ _) (fun q => by cases q) (by rw [arrV_size]; exact hin) rfl rfl d (fun H' e1 e2 e3 => ?_)
  refine kk p l e R s m args below meth c H' _ cells slots lsA F (a1.putA ha hk hc hm e1 e2 e3 rfl rfl rfl (wI_oth h a _) (by rw [hI_wIs, va_up_self]; rfl) (fun j hj => ⟨by rw [hI_wIs]; exact va_up_oth _ _ _ _ hj, rfl, rfl⟩)) (fun q hq => ?_) a3 a4 a5 a6 hl
  rcases List.mem_append.mp hq with h1 | h1
  · exact a2 q h1
  · rw [List.mem_singleton.mp h1]; exact a1.arrB ha hk hc hm
theorem V_castore {x : Int32} (d : Dc cc pc .castore 1 pc') (ha : a < hZ h) (hk : zkd (hT h a) = κ) (hc : zak κ = some 4) (hm : Nat.blt κ 650 = true) (hin : vp_in i (hN h a)) (hn : i.toNatClampNeg = n) (kk : V w mi cc L cb sb (wI h a (va_up (hI h a) n ((x.toUInt32 % 65536).toInt32))) pc' ls st Q) : V w mi cc L cb sb h pc ls (.int x :: .int i :: .ref a :: st) Q := by
  obtain ⟨d, rfl⟩ := d
  intro p l e R s m args below meth c H locs cells slots lsA F a1 a2 a3 a4 a5 a6 hl
  obtain ⟨f1, f2, -, -, -, f6, -, hK, -⟩ := id F
  have hA := a1.arr ha hk hc
  subst hn
  refine W.cast f1 f2 hA ((hK.2.2.2.1 4 (by decide)).arr _ _) (fun q => by cases q) (by rw [arrV_size]; exact hin) rfl rfl d (fun H' e1 e2 e3 => ?_)
  refine kk p l e R s m args below meth c H' _ cells slots lsA F (a1.putA ha hk hc hm e1 e2 e3 rfl rfl rfl (wI_oth h a _) (by rw [hI_wIs, va_up_self]; rfl) (fun j hj => ⟨by rw [hI_wIs]; exact va_up_oth _ _ _ _ hj, rfl, rfl⟩)) (fun q hq => ?_) a3 a4 a5 a6 hl
  rcases List.mem_append.mp hq with h1 | h1
  · exact a2 q h1
  · rw [List.mem_singleton.mp h1]; exact a1.arrB ha hk hc hm
theorem V_zastore {x : Int32} (d : Dc cc pc .bastore 1 pc') (ha : a < hZ h) (hk : zkd (hT h a) = κ) (hc : zak κ = some 5) (hm : Nat.blt κ 650 = true) (hin : vp_in i (hN h a)) (hn : i.toNatClampNeg = n) (hx : x = 0 ∨ x = 1) (kk : V w mi cc L cb sb (wI h a (va_up (hI h a) n x)) pc' ls st Q) : V w mi cc L cb sb h pc ls (.int x :: .int i :: .ref a :: st) Q := by
  obtain ⟨d, rfl⟩ := d
  intro p l e R s m args below meth c H locs cells slots lsA F a1 a2 a3 a4 a5 a6 hl
  obtain ⟨f1, f2, -, -, -, f6, -, hK, -⟩ := id F
  have hA := a1.arr ha hk hc
  subst hn
  have hnx : narrow .boolean (.int x) = .int x := by rcases hx with rfl | rfl <;> rfl
  refine W.zast f1 f2 hA ((hK.2.2.2.1 5 (by decide)).arr _ _) (fun q => by cases q) (by rw [arrV_size]; exact hin) rfl rfl d (fun H' e1 e2 e3 => ?_)
  rw [hnx] at e1
  refine kk p l e R s m args below meth c H' _ cells slots lsA F (a1.putA ha hk hc hm e1 e2 e3 rfl rfl rfl (wI_oth h a _) (by rw [hI_wIs, va_up_self]; rfl) (fun j hj => ⟨by rw [hI_wIs]; exact va_up_oth _ _ _ _ hj, rfl, rfl⟩)) (fun q hq => ?_) a3 a4 a5 a6 hl
  rcases List.mem_append.mp hq with h1 | h1
  · exact a2 q h1
  · rw [List.mem_singleton.mp h1]; exact a1.arrB ha hk hc hm
theorem V_arraylength {c : Nat} (d : Dc cc pc .arraylength 1 pc') (ha : a < hZ h) (hk : zkd (hT h a) = κ) (hc : zak κ = some c) (hn : hN h a = n) (kk : V w mi cc L cb sb h pc' ls (.int (nI n) :: st) Q) : V w mi cc L cb sb h pc ls (.ref a :: st) Q := by
  obtain ⟨d, rfl⟩ := d
  intro p l e R s m args below meth c1 H locs cells slots lsA F a1 a2 a3 a4 a5 a6 hl
  have kw := kk p l e R s m args below meth c1 H locs cells slots lsA F a1 a2 a3 a4 a5 a6 hl
  obtain ⟨f1, f2, -, -, -, f6, -, hK, -⟩ := F
  have hA := a1.arr ha hk hc
  subst hn
  exact W.alen f1 f2 hA ((hK.2.2.2.1 c (zak_lt hc)).arr _ _) (by rw [arrV_size]; rfl) rfl rfl d kw
/-- a reference or null is stored: the class of what is stored fits -/
theorem V_aastoreN {c : Nat} (d : Dc cc pc .aastore 1 pc') (ha : a < hZ h) (hk : zkd (hT h a) = κ) (hc : zak κ = some c) (hcr : c = 6 ∨ c = 7) (hm : Nat.blt κ 650 = true) (hin : vp_in i (hN h a)) (hn : i.toNatClampNeg = n) (kk : V w mi cc L cb sb (wR h a (va_up (hR h a) n none)) pc' ls st Q) : V w mi cc L cb sb h pc ls (.null :: .int i :: .ref a :: st) Q := by
  obtain ⟨d, rfl⟩ := d
  intro p l e R s m args below meth c1 H locs cells slots lsA F a1 a2 a3 a4 a5 a6 hl
  obtain ⟨f1, f2, -, -, -, f6, -, hK, -⟩ := id F
  have hA := a1.arr ha hk hc
  subst hn
  have hlt : i.toNatClampNeg < hN h a := by
    rcases Nat.lt_or_ge i.toNatClampNeg (hN h a) with q | q
    · exact q
    · exact absurd (Or.inr q) hin
  have key : ∀ H' : Heap, H'[a]? = some ((arrV (w.A c) (hN h a) (fun j => zfv (zat c) (hI h a j) (hL h a j) (hR h a j))).setSlot i.toNatClampNeg .null) → H'.size = H.size → (∀ q, q ≠ a → H'[q]? = H[q]?) → W p l e R s m args below meth c1 H' (locs ++ [⟨a, i.toNatClampNeg⟩]) cells slots (EQ w below s R Q) (F0 m (pc + 1) lsA st) := by
    intro H' e1 e2 e3
    refine kk p l e R s m args below meth c1 H' _ cells slots lsA F (a1.putA ha hk hc hm e1 e2 e3 rfl rfl rfl (wR_oth h a _) (by rw [hR_wRs, va_up_self]; rcases hcr with rfl | rfl <;> rfl) (fun j hj => ⟨rfl, rfl, by rw [hR_wRs]; exact va_up_oth _ _ _ _ hj⟩)) (fun q hq => ?_) a3 a4 a5 a6 hl
    rcases List.mem_append.mp hq with h1 | h1
    · exact a2 q h1
    · rw [List.mem_singleton.mp h1]; exact a1.arrB ha hk hc hm
  rcases hcr with rfl | rfl
  · exact va_WaastN f1 f2 hA ((hK.2.2.2.1 6 (by decide)).arr _ _) (fun q => by cases q) (by rw [arrV_size]; exact hin) rfl rfl d key
  · exact va_WaastN f1 f2 hA ((hK.2.2.2.1 7 (by decide)).arr _ _) (fun q => by cases q) (by rw [arrV_size]; exact hin) rfl rfl d key
/-- that cells of kind κv may be stored into arrays of type c -/
def zAs (w : Wd) (s : State) (c κv : Nat) : Prop := ∀ (comp : ClassId), s.vm.findClass (zarN (zat c)) = some comp → (κv < 40 → s.vm.assignable (w.C κv) comp = true) ∧ (∀ c2, zak κv = some c2 → s.vm.assignable (w.A c2) comp = true)
theorem V_aastore {c b κv : Nat} (d : Dc cc pc .aastore 1 pc') (ha : a < hZ h) (hk : zkd (hT h a) = κ) (hc : zak κ = some c) (hm : Nat.blt κ 650 = true) (hb : b < hZ h) (hkb : zkd (hT h b) = κv) (hc6 : Nat.ble 6 c = true) (hin : vp_in i (hN h a)) (hn : i.toNatClampNeg = n) (has : ∀ s, Kn w s → zAs w s c κv) (hv : κv < 40 ∨ ∃ c2, zak κv = some c2) (kk : V w mi cc L cb sb (wR h a (va_up (hR h a) n (some b))) pc' ls st Q) : V w mi cc L cb sb h pc ls (.ref b :: .int i :: .ref a :: st) Q := by
  obtain ⟨d, rfl⟩ := d
  intro p l e R s m args below meth c1 H locs cells slots lsA F a1 a2 a3 a4 a5 a6 hl
  obtain ⟨f1, f2, -, -, -, f6, -, hK, -⟩ := id F
  have hA := a1.arr ha hk hc
  subst hn
  have hlt : ¬ i < 0 ∧ i.toNatClampNeg < hN h a := by
    constructor
    · exact fun q => hin (Or.inl q)
    · rcases Nat.lt_or_ge i.toNatClampNeg (hN h a) with q | q
      · exact q
      · exact absurd (Or.inr q) hin
  have hc11 := zak_lt hc
  have hcr : c = 6 ∨ c = 7 ∨ c = 8 ∨ c = 9 ∨ c = 10 := by have := Nat.le_of_ble_eq_true hc6; omega
  have hrefT : (zat c).isReference = true := by rcases hcr with rfl | rfl | rfl | rfl | rfl <;> rfl
  obtain ⟨-, kA, comp, z2, z3, z4⟩ := hK.2.2.2.1 c hc11
  obtain ⟨z5, kc, z6⟩ := z4 hrefT
  obtain ⟨as1, as2⟩ := has s hK comp z5
  obtain ⟨cv, kv, v1, v2, v3, v4⟩ : ∃ (cv : Cell) (kv : Class), H[b]? = some cv ∧ (∀ q, cv.vm ≠ .statics q) ∧ s.vm.classes[cv.cls]? = some kv ∧ s.vm.assignable cv.cls comp = true := by
    rcases hv with hv | ⟨c2, hv⟩
    · obtain ⟨o1, -, cell, q1, q2, q3, -⟩ := (a1.2.2.2 b hb).1 (by rw [hkb]; exact hv)
      rw [hkb] at o1 q2
      obtain ⟨-, -, kC, hkC, -⟩ := hK.2.2.1 _ o1
      exact ⟨cell, kC, q1, fun q h => (by rw [q3] at h; cases h), by rw [q2]; exact hkC, by rw [q2]; exact as1 hv⟩
    · have hB := a1.arr hb hkb hv
      obtain ⟨-, kB, -, y2, -⟩ := hK.2.2.2.1 c2 (zak_lt hv)
      exact ⟨_, kB, hB, fun q h => (by cases h), y2, as2 c2 hv⟩
  refine W.aast f1 f2 hA (fun q h => by cases h) (fun q => by cases q) z2 z3 hrefT z6 (by rw [arrV_size]; exact hlt) v1 v2 v3 v4 rfl rfl d (fun H' e1 e2 e3 => ?_)
  refine kk p l e R s m args below meth c1 H' _ cells slots lsA F (a1.putA ha hk hc hm e1 e2 e3 rfl rfl rfl (wR_oth h a _) (by rw [hR_wRs, va_up_self]; rcases hcr with rfl | rfl | rfl | rfl | rfl <;> rfl) (fun j hj => ⟨rfl, rfl, by rw [hR_wRs]; exact va_up_oth _ _ _ _ hj⟩)) (fun q hq => ?_) a3 a4 a5 a6 hl
  rcases List.mem_append.mp hq with h1 | h1
  · exact a2 q h1
  · rw [List.mem_singleton.mp h1]; exact a1.arrB ha hk hc hm
end ARR
