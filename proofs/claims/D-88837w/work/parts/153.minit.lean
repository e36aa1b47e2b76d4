/-! the model made new -/
def mtag (j : Nat) : Nat := if mlong j then 170 + j else 120 + j
/-- the heap h, grown out of h0 by the model m's arrays js -/
def MJ (h0 : Hp) (m : Nat) (h : Hp) (ad : Nat → Nat) (js : List Nat) : Prop :=
  (hT h m = 2 ∧ m < hZ h ∧ ∀ b, hT h b = 2 → b = m) ∧
  (∀ j, j ∈ js → hR h m j = some (ad j) ∧ hT h (ad j) = mtag j ∧ ad j < hZ h ∧ ad j ≠ m ∧ hN h (ad j) = mlen j ∧ hI h (ad j) = (fun _ => 0) ∧ hL h (ad j) = (fun _ => 0)) ∧
  (∀ b, (120 < hT h b ∧ hT h b < 141) ∨ (183 < hT h b ∧ hT h b < 189) → ∃ j, j ∈ js ∧ b = ad j) ∧
  (∀ b, hZ h ≤ b → hT h b = 999) ∧ hI h m = (fun _ => 0) ∧ hZ h0 ≤ hZ h ∧
  (∀ b, b < hZ h0 → b ≠ m → hT h b = hT h0 b ∧ hN h b = hN h0 b ∧ hI h b = hI h0 b ∧ hL h b = hL h0 b ∧ hR h b = hR h0 b)
theorem mtag_ne {j : Nat} (hj : mint j = true ∨ mlong j = true) : mtag j ≠ 2 ∧ mtag j ≠ 999 := by
  unfold mtag
  rcases hj with q | q
  · have := mint_lt q
    split <;> omega
  · have := mlong_lt q
    split <;> omega
theorem MJ.step {h0 : Hp} {m : Nat} {h h' : Hp} {ad : Nat → Nat} {js : List Nat} (H : MJ h0 m h ad js) (j : Nat) (hj : mint j = true ∨ mlong j = true) (hn : j ∉ js) (e : h' = wR (nw h (mtag j) (mlen j)) m (va_up (hR (nw h (mtag j) (mlen j)) m) j (some (hZ h)))) : MJ h0 m h' (va_up ad j (hZ h)) (j :: js) := by
  obtain ⟨⟨a1, a2, a3⟩, b, c, d, f, g, k⟩ := H
  obtain ⟨t2, t9⟩ := mtag_ne hj
  have hm : m ≠ hZ h := by omega
  have eT : ∀ x, hT h' x = va_up (hT h) (hZ h) (mtag j) x := fun x => by rw [e]; rfl
  have eN : ∀ x, hN h' x = va_up (hN h) (hZ h) (mlen j) x := fun x => by rw [e]; rfl
  have eI : ∀ x, hI h' x = va_up (hI h) (hZ h) (fun _ => 0) x := fun x => by rw [e]; rfl
  have eL : ∀ x, hL h' x = va_up (hL h) (hZ h) (fun _ => 0) x := fun x => by rw [e]; rfl
  have eR : ∀ x, hR h' x = va_up (va_up (hR h) (hZ h) (fun _ => none)) m (va_up (hR h m) j (some (hZ h))) x := fun x => by
    rw [e]
    show va_up (va_up (hR h) (hZ h) (fun _ => none)) m (va_up (va_up (hR h) (hZ h) (fun _ => none) m) j (some (hZ h))) x = _
    rw [va_up_ne (hR h) _ hm]
  have eZ : hZ h' = hZ h + 1 := by rw [e]; rfl
  have adn : ∀ i, i ∈ js → va_up ad j (hZ h) i = ad i := fun i hi => va_up_ne _ _ (fun q => hn (q ▸ hi))
  refine ⟨⟨by rw [eT, va_up_ne _ _ hm]; exact a1, by omega, fun x hx => ?_⟩, fun i hi => ?_, fun x hx => ?_, fun x hx => ?_, by rw [eI, va_up_ne _ _ hm]; exact f, by omega, fun x hx hxm => ?_⟩
  · by_cases q : x = hZ h
    · subst q; rw [eT, va_up_self] at hx; exact absurd hx t2
    · rw [eT, va_up_ne _ _ q] at hx; exact a3 x hx
  · rcases List.mem_cons.mp hi with q | q
    · subst q
      rw [va_up_self, eT, va_up_self, eN, va_up_self, eI, va_up_self, eL, va_up_self, eR, va_up_self, va_up_self]
      exact ⟨rfl, rfl, by omega, by omega, rfl, rfl, rfl⟩
    · obtain ⟨p1, p2, p3, p4, p5, p6, p7⟩ := b i q
      have hij : i ≠ j := fun r => hn (r ▸ q)
      rw [adn i q, eT, va_up_ne _ _ (by omega), eN, va_up_ne _ _ (by omega), eI, va_up_ne _ _ (by omega), eL, va_up_ne _ _ (by omega), eR, va_up_self, va_up_ne _ _ hij]
      exact ⟨p1, p2, by omega, p4, p5, p6, p7⟩
  · by_cases q : x = hZ h
    · subst q; exact ⟨j, List.mem_cons_self .., (va_up_self _ _ _).symm⟩
    · rw [eT, va_up_ne _ _ q] at hx
      obtain ⟨i, h1, h2⟩ := c x hx
      exact ⟨i, List.mem_cons_of_mem _ h1, by rw [adn i h1]; exact h2⟩
  · rw [eT, va_up_ne _ _ (by omega)]; exact d x (by omega)
  · obtain ⟨p1, p2, p3, p4, p5⟩ := k x hx hxm
    rw [eT, va_up_ne _ _ (by omega), eN, va_up_ne _ _ (by omega), eI, va_up_ne _ _ (by omega), eL, va_up_ne _ _ (by omega), eR, va_up_ne _ _ hxm, va_up_ne _ _ (by omega)]
    exact ⟨p1, p2, p3, p4, p5⟩
