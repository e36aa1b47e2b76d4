/-! fields -/
def FL (own : String) (idx k j : Nat) : Prop := zok k = true ∧ j < (zcl k).2.2 ∧ ∃ ref : String, (Cond.fieldLink own idx ref ((zcl k).2.1 j).2.1 ((zcl k).2.1 j).2.2.1 ∈ lw_all ∨ ∃ host, Cond.fieldLinkNest own idx ref ((zcl k).2.1 j).2.1 ((zcl k).2.1 j).2.2.1 host ∈ lw_tbl) ∧ (ref = ((zcl k).2.1 j).1 ∨ Cond.sameField ref ((zcl k).2.1 j).1 ((zcl k).2.1 j).2.1 ((zcl k).2.1 j).2.2.1 ∈ lw_all)
theorem Kn.hts {w : Wd} {s : State} (hK : Kn w s) (args : Array Value) : ∀ wd ∈ lw_all, wd.before args s = true := fun wd h => hK.1 wd h args
theorem Kn.apart {w : Wd} {s : State} (hK : Kn w s) {k : Nat} (hk : zok k = true) : ∀ x y, x < (zcl k).2.2 → y < (zcl k).2.2 → x ≠ y → w.S k x ≠ w.S k y := by
  intro x y hx hy hne
  obtain ⟨hS, -⟩ := hK.2.2.1 k hk
  obtain ⟨_, _, _, fa, hia, ea⟩ := hS x hx
  obtain ⟨_, _, _, fb, hib, eb⟩ := hS y hy
  rw [← ea, ← eb]
  refine u_apart (u_lays (hK.hts #[]) (zcl_in hk) hx) (u_lays (hK.hts #[]) (zcl_in hk) hy) hia hib ?_
  rw [(State.fieldFound?_type hia (zcl_ty hk x hx)).1, (State.fieldFound?_type hib (zcl_ty hk y hy)).1]
  exact zcl_nm hk x hx y hy hne
theorem FL.found {w : Wd} {s : State} {args : Array Value} (hK : Kn w s) {ref : String} {k j : Nat} (hs : ref = ((zcl k).2.1 j).1 ∨ Cond.sameField ref ((zcl k).2.1 j).1 ((zcl k).2.1 j).2.1 ((zcl k).2.1 j).2.2.1 ∈ lw_all) {x : ClassId × Class × Nat × Field} (hi : s.fieldFound? ((zcl k).2.1 j).1 ((zcl k).2.1 j).2.1 ((zcl k).2.1 j).2.2.1 = some x) : s.fieldFound? ref ((zcl k).2.1 j).2.1 ((zcl k).2.1 j).2.2.1 = some x := by
  rcases hs with h | h
  · rw [h]; exact hi
  · exact u_same (hK.hts args _ h) x hi
theorem V_getF {w : Wd} {mi : Mi} {cc : ByteArray} {L cb sb : Nat} {h : Hp} {pc pc' idx k j : Nat} {ls : List (Option Value)} {st : List Value} {Q : Outcome → Hp → Prop} {a : Nat} {v : Value} (d : Dc cc pc (.getfield idx) 3 pc') (fl : FL mi.1.cls idx k j) (hk : zkd (hT h a) = k) (ha : a < hZ h) (hv : zfv (zty k j) (hI h a j) (hL h a j) (hR h a j) = v)
    (kk : V w mi cc L cb sb h pc' ls (v :: st) Q) : V w mi cc L cb sb h pc ls (.ref a :: st) Q := by
  obtain ⟨d, rfl⟩ := d
  intro p l e R s m args below meth c H locs cells slots lsA F a1 a2 a3 a4 a5 a6 hl
  have kw := kk p l e R s m args below meth c H locs cells slots lsA F a1 a2 a3 a4 a5 a6 hl
  obtain ⟨f1, f2, -, -, -, f6, -, hK, -⟩ := F
  obtain ⟨g1, g2, ref, g3, g4⟩ := fl
  obtain ⟨-, -, cell, q1, q2, q3, q4⟩ := (a1.2.2.2 a ha).1 (by rw [hk]; exact zok_lt g1)
  rw [hk] at q2 q4
  obtain ⟨hS, hfc, kC, hkC, hkind⟩ := hK.2.2.1 k g1
  obtain ⟨cf, kf, fi, f, hi, hsl⟩ := hS j g2
  have hst := (u_facts hfc hkC (u_lays (hK.hts args) (zcl_in g1) g2) hi).1
  rcases g3 with g3 | ⟨host, g3⟩
  · exact W.getf f1 f2 f6 (hK.hts args _ g3) (FL.found (args := args) hK g4 hi) hst q1 (by rw [q3]; exact fun h => by cases h) (v := v) (by rw [hsl, q4 j g2]; exact congrArg some hv) rfl rfl d kw
  · exact va_Wgetf f1 f2 f6 (va_Nw.use rfl (hK.2.1 _ g3 rfl)) (FL.found (args := args) hK g4 hi) hst q1 (by rw [q3]; exact fun h => by cases h) (v := v) (by rw [hsl, q4 j g2]; exact congrArg some hv) rfl rfl d kw
/-- what a field's write makes of the plain heap -/
def zput (ty : FieldType) (h : Hp) (a j : Nat) (v : Value) : Hp := match ty, v with
  | .long, .long x => wL h a (va_up (hL h a) j x)
  | .object _, .ref x => wR h a (va_up (hR h a) j (some x))
  | .object _, .null => wR h a (va_up (hR h a) j none)
  | .array _, .ref x => wR h a (va_up (hR h a) j (some x))
  | .array _, .null => wR h a (va_up (hR h a) j none)
  | _, .int x => wI h a (va_up (hI h a) j x)
  | _, _ => h
theorem wI_oth (h : Hp) (a : Nat) (f : Nat → Int32) : ∀ b, b ≠ a → hT (wI h a f) b = hT h b ∧ hN (wI h a f) b = hN h b ∧ hI (wI h a f) b = hI h b ∧ hL (wI h a f) b = hL h b ∧ hR (wI h a f) b = hR h b := fun b hb => ⟨rfl, rfl, hI_wIn h f hb, rfl, rfl⟩
theorem wL_oth (h : Hp) (a : Nat) (f : Nat → Int64) : ∀ b, b ≠ a → hT (wL h a f) b = hT h b ∧ hN (wL h a f) b = hN h b ∧ hI (wL h a f) b = hI h b ∧ hL (wL h a f) b = hL h b ∧ hR (wL h a f) b = hR h b := fun b hb => ⟨rfl, rfl, rfl, hL_wLn h f hb, rfl⟩
theorem wR_oth (h : Hp) (a : Nat) (f : Nat → Option Nat) : ∀ b, b ≠ a → hT (wR h a f) b = hT h b ∧ hN (wR h a f) b = hN h b ∧ hI (wR h a f) b = hI h b ∧ hL (wR h a f) b = hL h b ∧ hR (wR h a f) b = hR h b := fun b hb => ⟨rfl, rfl, rfl, rfl, hR_wRn h f hb⟩
/-- the write of one field, on both heaps -/
theorem RelH.putF {w : Wd} {s : State} {h h' : Hp} {H H' : Heap} {a k j : Nat} {cell : Cell} {v : Value} (r : RelH w h H) (hK : Kn w s) (hk : zkd (hT h a) = k) (ok : zok k = true) (hj : j < (zcl k).2.2) (q1 : H[a]? = some cell) (e1 : H'[a]? = some (cell.setSlot (w.S k j) v)) (hs : H'.size = H.size) (ho : ∀ q : Nat, q ≠ a → H'[q]? = H[q]?)
    (ez : hZ h' = hZ h) (et : hT h' a = hT h a) (hh : ∀ b, b ≠ a → hT h' b = hT h b ∧ hN h' b = hN h b ∧ hI h' b = hI h b ∧ hL h' b = hL h b ∧ hR h' b = hR h b)
    (hv : zfv (zty k j) (hI h' a j) (hL h' a j) (hR h' a j) = v) (hu : ∀ i, i ≠ j → hI h' a i = hI h a i ∧ hL h' a i = hL h a i ∧ hR h' a i = hR h a i) : RelH w h' H' := by
  have ha : a < hZ h := by
    have := (Array.getElem?_eq_some_iff.mp q1).1
    rw [r.1] at this
    exact this
  have hk40 : zkd (hT h a) < 40 := by rw [hk]; exact zok_lt ok
  obtain ⟨-, hb, cell', p1, p2, p3, p4⟩ := (r.2.2.2 a ha).1 hk40
  cases q1.symm.trans p1
  rw [hk] at p2 p4
  refine r.set hb hs ho ez et hh fun _ => ?_
  refine ⟨fun _ => ?_, fun h1 => ?_, fun h1 => ?_⟩
  · rw [et, hk]
    refine ⟨ok, hb, _, e1, p2, p3, ?_⟩
    have hset := t_set p4 (hK.apart ok) hj v
    intro i hi
    rw [hset i hi]
    by_cases hij : i = j
    · subst hij
      show some (updV _ i v i) = some (zfv (zty k i) (hI h' a i) (hL h' a i) (hR h' a i))
      rw [hv]
      simp [updV]
    · obtain ⟨u1, u2, u3⟩ := hu i hij
      simp only [updV, if_neg hij, u1, u2, u3]
  · rw [et] at h1; omega
  · rw [et] at h1; omega
theorem V_putF0 {w : Wd} {mi : Mi} {cc : ByteArray} {L cb sb : Nat} {h h' : Hp} {pc pc' idx k j : Nat} {ls : List (Option Value)} {st : List Value} {Q : Outcome → Hp → Prop} {a : Nat} {v : Value} (d : Dc cc pc (.putfield idx) 3 pc') (fl : FL mi.1.cls idx k j) (hk : zkd (hT h a) = k) (ha : a < hZ h)
    (hfin : ((zcl k).2.1 j).2.2.2 = false ∨ (((zcl k).2.1 j).2.2.2 = true ∧ mi.1.name = "<init>" ∧ ((zcl k).2.1 j).1 = mi.1.cls ∧ ∃ ref, Cond.fieldLink mi.1.cls idx ref ((zcl k).2.1 j).2.1 ((zcl k).2.1 j).2.2.1 ∈ lw_all ∧ ref = ((zcl k).2.1 j).1)) (hn : narrow (zty k j) v = v) (hfit : fits (zty k j) v = true)
    (ez : hZ h' = hZ h) (et : hT h' a = hT h a) (hh : ∀ b, b ≠ a → hT h' b = hT h b ∧ hN h' b = hN h b ∧ hI h' b = hI h b ∧ hL h' b = hL h b ∧ hR h' b = hR h b)
    (hv : zfv (zty k j) (hI h' a j) (hL h' a j) (hR h' a j) = v) (hu : ∀ i, i ≠ j → hI h' a i = hI h a i ∧ hL h' a i = hL h a i ∧ hR h' a i = hR h a i)
    (kk : V w mi cc L cb sb h' pc' ls st Q) : V w mi cc L cb sb h pc ls (v :: .ref a :: st) Q := by
  obtain ⟨d, rfl⟩ := d
  intro p l e R s m args below meth c H locs cells slots lsA F a1 a2 a3 a4 a5 a6 hl
  obtain ⟨f1, f2, f3, f4, f5, f6, f7, hK, f9⟩ := id F
  obtain ⟨g1, g2, ref, g3, g4⟩ := fl
  obtain ⟨-, hb, cell, q1, q2, q3, q4⟩ := (a1.2.2.2 a ha).1 (by rw [hk]; exact zok_lt g1)
  rw [hk] at q2 q4
  obtain ⟨hS, hfc, kC, hkC, hkind⟩ := hK.2.2.1 k g1
  obtain ⟨cf, kf, fi, f, hi, hsl⟩ := hS j g2
  have hst := (u_facts hfc hkC (u_lays (hK.hts args) (zcl_in g1) g2) hi).1
  have fin : ∀ H' : Heap, H'[a]? = some (cell.setSlot f.slot v) → H'.size = H.size → (∀ q, q ≠ a → H'[q]? = H[q]?) → W p l e R s m args below meth c H' (locs ++ [⟨a, f.slot⟩]) cells slots (EQ w below s R Q) (F0 m (pc + 3) lsA st) := by
    intro H' e1 e2 e3
    rw [hsl] at e1
    refine kk p l e R s m args below meth c H' (locs ++ [⟨a, f.slot⟩]) cells slots lsA F (a1.putF hK hk g1 g2 q1 e1 e2 e3 ez et hh hv hu) (fun q hq => ?_) a3 a4 a5 a6 hl
    rcases List.mem_append.mp hq with h1 | h1
    · exact a2 q h1
    · rw [List.mem_singleton.mp h1]; exact hb
  rcases hfin with hfin | ⟨hfin, hinit, hdecl, rf, hrf, hrd⟩
  · have hlay := (hK.hts args) _ (zcl_in g1 _ (u_in_lay g2))
    unfold u_lay at hlay
    rw [if_neg (by rw [hfin]; decide)] at hlay
    have h6 := u_store hfc hkC hkind hlay hi (zcl_ty g1 j g2) hn hfit
    rcases g3 with g3 | ⟨host, g3⟩
    · exact W.putK f1 f2 (f := f) ⟨f6, hK.hts args _ g3, ⟨_, _, _, FL.found (args := args) hK g4 hi⟩, hst⟩ (by rw [q2]; exact h6) q1 q3 (by rw [hsl]; exact k2_hasslot (q4 j g2)) rfl rfl d fin
    · exact va_WputK f1 f2 f6 (va_Nw.use rfl (hK.2.1 _ g3 rfl)) (FL.found (args := args) hK g4 hi) hst (by rw [q2]; exact h6) q1 q3 (by rw [hsl]; exact k2_hasslot (q4 j g2)) rfl rfl d fin
  · have hlay := (hK.hts args) _ (zcl_in g1 _ (u_in_lay g2))
    unfold u_lay at hlay
    rw [if_pos hfin] at hlay
    have hcf : m.cls = cf := by
      obtain ⟨_, _, c', _, _, _, -, -, hf', -, -, -, hown2, -⟩ := Cond.laysFinal_spec hlay
      have e1 : c' = cf := by have := hi.symm.trans hf'; simp at this; exact this.1.symm
      rw [hdecl] at hown2
      rw [← e1]; exact Option.some.inj (f6.symm.trans hown2)
    have h6 := u_fits hfc hkC hkind (Or.inr hlay) hi (zcl_ty g1 j g2) hn hfit
    exact W.putFinK f1 f2 f6 (hK.hts args _ hrf) (by rw [hrd]; exact hi) hst hcf (f7.trans hinit) (by rw [q2]; exact h6) q1 q3 (by rw [hsl]; exact k2_hasslot (q4 j g2)) rfl rfl d fin
def Fin (mi : Mi) (idx k j : Nat) : Prop := ((zcl k).2.1 j).2.2.2 = false ∨ (((zcl k).2.1 j).2.2.2 = true ∧ mi.1.name = "<init>" ∧ ((zcl k).2.1 j).1 = mi.1.cls ∧ ∃ ref, Cond.fieldLink mi.1.cls idx ref ((zcl k).2.1 j).2.1 ((zcl k).2.1 j).2.2.1 ∈ lw_all ∧ ref = ((zcl k).2.1 j).1)
theorem va_up_oth {α : Type} (f : Nat → α) (j : Nat) (v : α) (i : Nat) (h : i ≠ j) : va_up f j v i = f i := va_up_ne _ _ h
section PUT
variable {w : Wd} {mi : Mi} {cc : ByteArray} {L cb sb : Nat} {h : Hp} {pc pc' idx k j : Nat} {ls : List (Option Value)} {st : List Value} {Q : Outcome → Hp → Prop} {a : Nat}
theorem V_putI {x : Int32} (d : Dc cc pc (.putfield idx) 3 pc') (fl : FL mi.1.cls idx k j) (hk : zkd (hT h a) = k) (ha : a < hZ h) (hfin : Fin mi idx k j) (hty : zty k j = .int) (kk : V w mi cc L cb sb (wI h a (va_up (hI h a) j x)) pc' ls st Q) : V w mi cc L cb sb h pc ls (.int x :: .ref a :: st) Q :=
  V_putF0 (h' := wI h a (va_up (hI h a) j x)) d fl hk ha hfin (by rw [hty]; rfl) (by rw [hty]; rfl) rfl rfl (wI_oth h a _) (by rw [hty, hI_wIs, va_up_self]; rfl) (fun i hi => ⟨by rw [hI_wIs]; exact va_up_oth _ _ _ _ hi, rfl, rfl⟩) kk
theorem V_putZ {x : Int32} (d : Dc cc pc (.putfield idx) 3 pc') (fl : FL mi.1.cls idx k j) (hk : zkd (hT h a) = k) (ha : a < hZ h) (hfin : Fin mi idx k j) (hty : zty k j = .boolean) (hx : x = 0 ∨ x = 1) (kk : V w mi cc L cb sb (wI h a (va_up (hI h a) j x)) pc' ls st Q) : V w mi cc L cb sb h pc ls (.int x :: .ref a :: st) Q :=
  V_putF0 (h' := wI h a (va_up (hI h a) j x)) d fl hk ha hfin (by rw [hty]; rcases hx with rfl | rfl <;> rfl) (by rw [hty]; rcases hx with rfl | rfl <;> rfl) rfl rfl (wI_oth h a _) (by rw [hty, hI_wIs, va_up_self]; rfl) (fun i hi => ⟨by rw [hI_wIs]; exact va_up_oth _ _ _ _ hi, rfl, rfl⟩) kk
theorem V_putL {x : Int64} (d : Dc cc pc (.putfield idx) 3 pc') (fl : FL mi.1.cls idx k j) (hk : zkd (hT h a) = k) (ha : a < hZ h) (hfin : Fin mi idx k j) (hty : zty k j = .long) (kk : V w mi cc L cb sb (wL h a (va_up (hL h a) j x)) pc' ls st Q) : V w mi cc L cb sb h pc ls (.long x :: .ref a :: st) Q :=
  V_putF0 (h' := wL h a (va_up (hL h a) j x)) d fl hk ha hfin (by rw [hty]; rfl) (by rw [hty]; rfl) rfl rfl (wL_oth h a _) (by rw [hty, hL_wLs, va_up_self]; rfl) (fun i hi => ⟨rfl, by rw [hL_wLs]; exact va_up_oth _ _ _ _ hi, rfl⟩) kk
theorem V_putR {r : Option Nat} (d : Dc cc pc (.putfield idx) 3 pc') (fl : FL mi.1.cls idx k j) (hk : zkd (hT h a) = k) (ha : a < hZ h) (hfin : Fin mi idx k j) (hty : (∃ C, zty k j = .object C) ∨ ∃ t, zty k j = .array t) (kk : V w mi cc L cb sb (wR h a (va_up (hR h a) j r)) pc' ls st Q) : V w mi cc L cb sb h pc ls (va_rf r :: .ref a :: st) Q := by
  refine V_putF0 (h' := wR h a (va_up (hR h a) j r)) d fl hk ha hfin ?_ ?_ rfl rfl (wR_oth h a _) ?_ (fun i hi => ⟨rfl, rfl, by rw [hR_wRs]; exact va_up_oth _ _ _ _ hi⟩) kk
  · rcases hty with ⟨C, e⟩ | ⟨C, e⟩ <;> rw [e] <;> cases r <;> rfl
  · rcases hty with ⟨C, e⟩ | ⟨C, e⟩ <;> rw [e] <;> cases r <;> rfl
  · rw [hR_wRs, va_up_self]
    rcases hty with ⟨C, e⟩ | ⟨C, e⟩ <;> rw [e] <;> rfl
end PUT
