/-! natives: System.arraycopy, clone of arrays, casts to array types -/
def wC (h : Hp) (a0 a s d n : Nat) : Hp := (hT h, hN h, va_up (hI h) a (va_cpy (hI h a0) (hI h a) s d n), va_up (hL h) a (va_cpy (hL h a0) (hL h a) s d n), va_up (hR h) a (va_cpy (hR h a0) (hR h a) s d n), hZ h)
theorem znn32 (z : Int32) (hz : ¬ z < 0) : z.toInt = (z.toNatClampNeg : Int) := by
  have hz0 : (0 : Int) ≤ z.toInt := by
    have := Int32.not_lt.mp hz
    simpa using Int32.le_iff_toInt_le.mp this
  show z.toInt = ((z.toInt.toNat : Nat) : Int)
  omega
def zmk (c : Nat) (q : Int32 × Int64 × Option Nat) : Value := zfv (zat c) q.1 q.2.1 q.2.2
theorem zcpy3 (f1 g1 : Nat → Int32) (f2 g2 : Nat → Int64) (f3 g3 : Nat → Option Nat) (s d n j : Nat) : va_cpy (fun j => (f1 j, f2 j, f3 j)) (fun j => (g1 j, g2 j, g3 j)) s d n j = (va_cpy f1 g1 s d n j, va_cpy f2 g2 s d n j, va_cpy f3 g3 s d n j) := by
  unfold va_cpy
  split <;> rfl
section NAT
variable {w : Wd} {mi : Mi} {cc : ByteArray} {L cb sb : Nat} {h : Hp} {pc pc' idx : Nat} {ls : List (Option Value)} {st : List Value} {Q : Outcome → Hp → Prop}
theorem V_acopy {a0 a κ0 κ1 cT : Nat} {sp dp n : Int32} (d : Dc cc pc (.invokestatic idx) 3 pc') (l1 : Cond.methodLink mi.1.cls idx arraycopyName ∈ lw_all) (l2 : Cond.native arraycopyName ∈ lw_all) (l3 : Cond.static arraycopyName ∈ lw_all) (l4 : Cond.initialized "java/lang/System" ∈ lw_all)
    (ha0 : a0 < hZ h) (hk0 : zkd (hT h a0) = κ0) (hc0 : zak κ0 = some cT) (ha : a < hZ h) (hk : zkd (hT h a) = κ1) (hc1 : zak κ1 = some cT) (hm : Nat.blt κ1 650 = true)
    (h1 : ¬ sp < 0) (h2 : ¬ dp < 0) (h3 : ¬ n < 0) (h4 : sp.toNatClampNeg + n.toNatClampNeg ≤ hN h a0) (h5 : dp.toNatClampNeg + n.toNatClampNeg ≤ hN h a)
    (hfit : ∀ i, i < n.toNatClampNeg → fits (zat cT) (zfv (zat cT) (hI h a0 (sp.toNatClampNeg + i)) (hL h a0 (sp.toNatClampNeg + i)) (hR h a0 (sp.toNatClampNeg + i))) = true)
    (htk : cT < 6 ∨ (cT = 6 ∧ ∀ i b, i < n.toNatClampNeg → hR h a0 (sp.toNatClampNeg + i) = some b → b < hZ h ∧ zok (zkd (hT h b)) = true))
    (hLv : Nat.blt 0 L = true) (hw : Nat.ble (st.map fun v => v.category).sum 8 = true)
    (kk : V w mi cc L cb sb (wC h a0 a sp.toNatClampNeg dp.toNatClampNeg n.toNatClampNeg) pc' ls st Q) : V w mi cc L cb sb h pc ls (.int n :: .int dp :: .ref a :: .int sp :: .ref a0 :: st) Q := by
  obtain ⟨d, rfl⟩ := d
  intro p l e R s m args below meth c H locs cells slots lsA F a1 a2 a3 a4 a5 a6 hl T hTh X
  obtain ⟨f1, f2, f3, -, -, f6, -, hK, -⟩ := id F
  have hA0 := a1.arr ha0 hk0 hc0
  have hA := a1.arr ha hk hc1
  have hw1 := a1.arrB ha hk hc1 hm
  obtain ⟨-, kA, comp, z2, z3, z4⟩ := hK.2.2.2.1 cT (zak_lt hc0)
  have hL1 : 1 ≤ L := Nat.le_of_ble_eq_true hLv
  have hw8 := Nat.le_of_ble_eq_true hw
  have hnw : nativeFrameWords "java/lang/System" "arraycopy" 5 + 11 ≤ 56 := by decide
  have hsz : ∀ (b : Nat) (g : Nat → Value), (arrV (w.A cT) (hN h b) g).slots.size = hN h b := fun b g => arrV_size _ _ _
  obtain ⟨vm', X', step⟩ := X.arraycopy f1 f6 (hK.hts args _ l1) (hK.hts args _ l2) (hK.hts args _ l3) (hK.hts args _ l4) (src := a0) (dst := a) (srcPos := sp) (destPos := dp) (n := n) (by rw [hTh]; exact hA0) (by rw [hTh]; exact hA)
    (fun _ q => by cases q) (fun _ q => by cases q) (fun q => by cases q) (fun q => by cases q) z2 z2 z3 z3 (by simp) h1 h2 h3
    (by rw [znn32 sp h1, znn32 n h3, hsz]; omega) (by rw [znn32 dp h2, znn32 n h3, hsz]; omega)
    (fun vm₁ hW i hi => by
      have e : (arrV (w.A cT) (hN h a0) (fun j => zfv (zat cT) (hI h a0 j) (hL h a0 j) (hR h a0 j))).slots.getD (sp.toNatClampNeg + i) .null = zfv (zat cT) (hI h a0 (sp.toNatClampNeg + i)) (hL h a0 (sp.toNatClampNeg + i)) (hR h a0 (sp.toNatClampNeg + i)) := by
        rw [Array.getD_eq_getD_getElem?, arrV_read _ _ (by omega)]
        rfl
      refine ⟨?_, ?_⟩
      · rw [e]
        exact hfit i hi
      · rw [e]
        rcases htk with h6 | ⟨rfl, h6⟩
        · have : cT = 0 ∨ cT = 1 ∨ cT = 2 ∨ cT = 3 ∨ cT = 4 ∨ cT = 5 := by omega
          rcases this with rfl | rfl | rfl | rfl | rfl | rfl <;> exact trivial
        · show (T.setVm vm₁).takes comp (va_rf (hR h a0 (sp.toNatClampNeg + i)))
          cases hr : hR h a0 (sp.toNatClampNeg + i) with
          | none => exact trivial
          | some b =>
            have hAl : s.vm.Alike vm₁ := hW
            obtain ⟨hb, ok⟩ := h6 i b hi hr
            obtain ⟨cell, g1, g2, g3⟩ := a1.recv hK hb rfl ok
            obtain ⟨z5, kc, z6⟩ := z4 rfl
            have hU : ∃ c1 t1, s.vm.findClass (zcl (zkd (hT h b))).1 = some c1 ∧ s.vm.findClass "java/lang/Object" = some t1 ∧ s.vm.assignable c1 t1 = true := Cond.castable_spec (hK.2.1 _ (zca6 ok) rfl)
            obtain ⟨c1, t1, y1, y2, y3⟩ := hU
            cases g3.symm.trans y1
            cases (show s.vm.findClass "java/lang/Object" = some comp from z5).symm.trans y2
            obtain ⟨kB, hkB, -⟩ := Vm.findClass_spec g3
            obtain ⟨kB', hkB', -⟩ := hAl.2.2 _ _ hkB
            obtain ⟨kc', hkc', -⟩ := hAl.2.2 _ _ z6
            exact ⟨cell, by rw [← hTh] at g1; exact g1, (fun q hq => by rw [hq] at g2; cases g2), ⟨kB', hkB'⟩, ⟨kc', hkc'⟩, by rw [State.vm_setVm, hAl.assignable]; exact y3⟩)
    (g := F0 m pc lsA (.int n :: .int dp :: .ref a :: .int sp :: .ref a0 :: st)) rfl (by rw [f3]; exact hl.1) (rest := st) rfl (by rw [f2]; exact d) (by omega) (by show 2 * 0 + _ + _ ≤ _; omega)
  have e1 : copied (arrV (w.A cT) (hN h a0) (fun j => zfv (zat cT) (hI h a0 j) (hL h a0 j) (hR h a0 j))) (arrV (w.A cT) (hN h a) (fun j => zfv (zat cT) (hI h a j) (hL h a j) (hR h a j))) sp dp n = arrV (w.A cT) (hN h a) (fun j => zfv (zat cT) (va_cpy (hI h a0) (hI h a) sp.toNatClampNeg dp.toNatClampNeg n.toNatClampNeg j) (va_cpy (hL h a0) (hL h a) sp.toNatClampNeg dp.toNatClampNeg n.toNatClampNeg j) (va_cpy (hR h a0) (hR h a) sp.toNatClampNeg dp.toNatClampNeg n.toNatClampNeg j)) := by
    have q := va_copied (zmk cT) (w.A cT) (w.A cT) (n0 := hN h a0) (n1 := hN h a) (sp := sp.toNatClampNeg) (dp := dp.toNatClampNeg) (n := n.toNatClampNeg) (fun j => (hI h a0 j, hL h a0 j, hR h a0 j)) (fun j => (hI h a j, hL h a j, hR h a j)) h4
    refine Eq.trans q ?_
    congr 1
    funext j
    rw [zcpy3]
    rfl
  rw [e1] at X' step
  have hlt : a < H.size := by rw [a1.1]; exact ha
  have hz : ((T.setVm vm').setCell a (arrV (w.A cT) (hN h a) (fun j => zfv (zat cT) (va_cpy (hI h a0) (hI h a) sp.toNatClampNeg dp.toNatClampNeg n.toNatClampNeg j) (va_cpy (hL h a0) (hL h a) sp.toNatClampNeg dp.toNatClampNeg n.toNatClampNeg j) (va_cpy (hR h a0) (hR h a) sp.toNatClampNeg dp.toNatClampNeg n.toNatClampNeg j)))).heap = H.setIfInBounds a (arrV (w.A cT) (hN h a) (fun j => zfv (zat cT) (va_cpy (hI h a0) (hI h a) sp.toNatClampNeg dp.toNatClampNeg n.toNatClampNeg j) (va_cpy (hL h a0) (hL h a) sp.toNatClampNeg dp.toNatClampNeg n.toNatClampNeg j) (va_cpy (hR h a0) (hR h a) sp.toNatClampNeg dp.toNatClampNeg n.toNatClampNeg j))) := by rw [← hTh]; rfl
  generalize hcl : arrV (w.A cT) (hN h a) (fun j => zfv (zat cT) (va_cpy (hI h a0) (hI h a) sp.toNatClampNeg dp.toNatClampNeg n.toNatClampNeg j) (va_cpy (hL h a0) (hL h a) sp.toNatClampNeg dp.toNatClampNeg n.toNatClampNeg j) (va_cpy (hR h a0) (hR h a) sp.toNatClampNeg dp.toNatClampNeg n.toNatClampNeg j)) = cl at hz X' step
  have oq : ∀ q : Nat, q ≠ a → (H.setIfInBounds a cl)[q]? = H[q]? := fun q hq => by simp [Array.getElem?_setIfInBounds, Ne.symm hq]
  have sq : (H.setIfInBounds a cl)[a]? = some cl := by simp [Array.getElem?_setIfInBounds, hlt]
  have hR1 : RelH w (wC h a0 a sp.toNatClampNeg dp.toNatClampNeg n.toNatClampNeg) (H.setIfInBounds a cl) := by
    refine a1.set (a := a) hw1 (by simp) oq rfl rfl (fun b hb => ⟨rfl, rfl, va_up_ne _ _ hb, va_up_ne _ _ hb, va_up_ne _ _ hb⟩) (fun hb => ?_)
    have hκ : κ1 < 650 := Nat.le_of_ble_eq_true hm
    have hT1 : zkd (hT (wC h a0 a sp.toNatClampNeg dp.toNatClampNeg n.toNatClampNeg) a) = κ1 := hk
    have hAB : zAB w cT (wC h a0 a sp.toNatClampNeg dp.toNatClampNeg n.toNatClampNeg) (H.setIfInBounds a cl) a := by
      unfold zAB
      rw [sq, ← hcl]
      congr 2
      funext j
      show _ = zfv (zat cT) (va_up (hI h) a (va_cpy (hI h a0) (hI h a) sp.toNatClampNeg dp.toNatClampNeg n.toNatClampNeg) a j) (va_up (hL h) a (va_cpy (hL h a0) (hL h a) sp.toNatClampNeg dp.toNatClampNeg n.toNatClampNeg) a j) (va_up (hR h) a (va_cpy (hR h a0) (hR h a) sp.toNatClampNeg dp.toNatClampNeg n.toNatClampNeg) a j)
      rw [va_up_self, va_up_self, va_up_self]
    have hκ1 : 100 ≤ κ1 ∧ (κ1 - 100) / 50 = cT := by
      unfold zak at hc1
      split at hc1
      · rename_i g1
        first | (rw [if_pos hκ] at hc1; cases hc1; exact ⟨g1, rfl⟩) | (cases hc1; exact ⟨g1, rfl⟩)
      · cases hc1
    refine ⟨fun q => ?_, fun q1 q2 => ?_, fun q1 q2 => ?_⟩
    · rw [hT1] at q; omega
    · rw [hT1, hκ1.2]
      exact ⟨hw1, hAB⟩
    · rw [hT1] at q1; omega
  obtain ⟨t2, b1, b2⟩ := kk p l e R s m args below meth c _ _ cells slots lsA F hR1 (fun q hq => by
    rcases List.mem_append.mp hq with g1 | g1
    · exact a2 q g1
    · obtain ⟨z, -, hz9⟩ := List.mem_map.mp g1
      rw [← hz9]; exact hw1) a3 a4 a5 a6 hl _ hz X'
  exact ⟨t2, step t2 b1, b2⟩
def zcv (h : Hp) (cT a j : Nat) : Bool := fits (zat cT) (zfv (zat cT) (hI h a j) (hL h a j) (hR h a j)) && (Nat.blt cT 6 || (cT == 6 && (match hR h a j with | none => true | some b => Nat.blt b (hZ h) && zok (zkd (hT h b)))))
theorem zcv_ok {cT a j : Nat} (q : zcv h cT a j = true) : fits (zat cT) (zfv (zat cT) (hI h a j) (hL h a j) (hR h a j)) = true ∧ (cT < 6 ∨ (cT = 6 ∧ ∀ b, hR h a j = some b → b < hZ h ∧ zok (zkd (hT h b)) = true)) := by
  unfold zcv at q
  simp only [Bool.and_eq_true, Bool.or_eq_true, beq_iff_eq] at q
  obtain ⟨q1, q2⟩ := q
  refine ⟨q1, ?_⟩
  rcases q2 with q2 | ⟨q2, q3⟩
  · exact Or.inl (Nat.le_of_ble_eq_true q2)
  · refine Or.inr ⟨q2, fun b hb => ?_⟩
    rw [hb] at q3
    simp only [Bool.and_eq_true] at q3
    exact ⟨Nat.le_of_ble_eq_true q3.1, q3.2⟩
def zcpy (cT : Nat) (r0 : Option Nat) (sp : Int32) (r : Option Nat) (dp n : Int32) : M Unit := fun h => match r0, r with
  | some a0, some a => if (a0 < hZ h ∧ zqr cT (zkd (hT h a0)) = true ∧ a < hZ h ∧ zqw cT (zkd (hT h a)) = true ∧ (cT < 6 ∨ cT = 6)) ∧ (¬ sp < 0 ∧ ¬ dp < 0 ∧ ¬ n < 0) ∧ (sp.toNatClampNeg + n.toNatClampNeg ≤ hN h a0 ∧ dp.toNatClampNeg + n.toNatClampNeg ≤ hN h a) ∧ (∀ i, i < n.toNatClampNeg → zcv h cT a0 (sp.toNatClampNeg + i) = true) then some ((), wC h a0 a sp.toNatClampNeg dp.toNatClampNeg n.toNatClampNeg, 0, 0) else none
  | _, _ => none
theorem D_acopy {β : Type} {x : β} {h1 : Hp} {c s cT : Nat} {r0 r : Option Nat} {sp dp n : Int32} {G : Unit → M β} (d : Dc cc pc (.invokestatic idx) 3 pc') (l1 : Cond.methodLink mi.1.cls idx arraycopyName ∈ lw_all) (l2 : Cond.native arraycopyName ∈ lw_all) (l3 : Cond.static arraycopyName ∈ lw_all) (l4 : Cond.initialized "java/lang/System" ∈ lw_all)
    (hLv : Nat.blt 0 L = true) (hw : Nat.ble (st.map fun v => v.category).sum 8 = true) (H : zbd (zcpy cT r0 sp r dp n) G h = some (x, h1, c, s))
    (kk : ∀ h', G () h' = some (x, h1, c, s) → V w mi cc L c s h' pc' ls st Q) : V w mi cc L c s h pc ls (.int n :: .int dp :: va_rf r :: .int sp :: va_rf r0 :: st) Q := by
  obtain ⟨a, h', c1, s1, c2, s2, e1, e2, rfl, rfl⟩ := zbd_ok H
  unfold zcpy at e1
  cases r0 with
  | none => cases e1
  | some a0 =>
    cases r with
    | none => cases e1
    | some a =>
      simp only at e1
      split at e1
      · rename_i q
        cases e1
        obtain ⟨⟨q1, q2, q3, q4, q5⟩, ⟨q6, q7, q8⟩, ⟨q9, q10⟩, q11⟩ := q
        refine V_acopy d l1 l2 l3 l4 q1 rfl (zqr_ok q2) q3 rfl (zqw_ok q4).1 (zqw_ok q4).2 q6 q7 q8 q9 q10 (fun i hi => (zcv_ok (q11 i hi)).1) ?_ hLv hw (kk _ e2)
        rcases q5 with q5 | q5
        · exact Or.inl q5
        · refine Or.inr ⟨q5, fun i b hi hr => ?_⟩
          rcases (zcv_ok (q11 i hi)).2 with g | g
          · omega
          · exact g.2 b hr
      · cases e1
/-! clone of an array: a new cell with the same contents -/
def nwc (h : Hp) (t a : Nat) : Hp := (va_up (hT h) (hZ h) t, va_up (hN h) (hZ h) (hN h a), va_up (hI h) (hZ h) (hI h a), va_up (hL h) (hZ h) (hL h a), va_up (hR h) (hZ h) (hR h a), hZ h + 1)
theorem RelH.newc {H H' : Heap} {t a : Nat} (r : RelH w h H) (hs : H'.size = hZ h + 1) (ho : ∀ q : Nat, q < hZ h → H'[q]? = H[q]?) (hc : RC w (nwc h t a) H' (hZ h)) : RelH w (nwc h t a) H' := by
  obtain ⟨r1, r2, r3, r4⟩ := r
  have ez : hZ (nwc h t a) = hZ h + 1 := rfl
  refine ⟨hs, by rw [ez]; omega, ⟨fun q hq => by rw [ho q (by omega)]; exact r3.1 q hq, fun b hb => ?_⟩, fun b hb => ?_⟩
  · rw [ez] at hb
    show va_up (hT h) (hZ h) t b = 999
    rw [va_up_ne _ _ (by omega)]
    exact r3.2 b (by omega)
  rw [ez] at hb
  by_cases hba : b = hZ h
  · subst hba
    exact hc
  · have hb' : b < hZ h := by omega
    exact (r4 b hb').kept (ho b hb') (va_up_ne _ _ hba) (va_up_ne _ _ hba) (va_up_ne _ _ hba) (va_up_ne _ _ hba) (va_up_ne _ _ hba)
theorem V_clone (κ' g : Nat) {a κ cT : Nat} {ad : String} (d : Dc cc pc (.invokevirtual idx) 3 pc') (had : "[" ++ (zat cT).toString = ad) (l1 : Cond.methodLink mi.1.cls idx ⟨ad, "clone", "()Ljava/lang/Object;"⟩ ∈ lw_all) (l2 : Cond.sameMethod ad "java/lang/Object" "clone" "()Ljava/lang/Object;" ∈ lw_all)
    (l3 : Cond.native ⟨"java/lang/Object", "clone", "()Ljava/lang/Object;"⟩ ∈ lw_all) (l4 : Cond.instanceMethod ⟨"java/lang/Object", "clone", "()Ljava/lang/Object;"⟩ ∈ lw_all) (l5 : Cond.selects ad ⟨ad, "clone", "()Ljava/lang/Object;"⟩ ⟨"java/lang/Object", "clone", "()Ljava/lang/Object;"⟩ ∈ lw_all) (l6 : Cond.castable ad "java/lang/Cloneable" ∈ lw_tbl)
    (ha : a < hZ h) (hk : zkd (hT h a) = κ) (hc : zak κ = some cT) (hc' : zak κ' = some cT) (hm : Nat.blt κ' 650 = true)
    (hfit : ∀ i, i < hN h a → fits (zat cT) (zfv (zat cT) (hI h a i) (hL h a i) (hR h a i)) = true)
    (hLv : Nat.blt 0 L = true) (hw : Nat.ble (st.map fun v => v.category).sum 8 = true)
    (kk : V w mi cc L cb sb (nwc h (κ' + 1000 * g) a) pc' ls (.ref (hZ h) :: st) Q) : V w mi cc L (cb + 1) (sb + hN h a) h pc ls (.ref a :: st) Q := by
  obtain ⟨d, rfl⟩ := d
  intro p l e R s m args below meth c H locs cells slots lsA F a1 a2 a3 a4 a5 a6 hl T hTh X
  obtain ⟨f1, f2, f3, -, -, f6, -, hK, -⟩ := id F
  have hA := a1.arr ha hk hc
  obtain ⟨z1, kA, comp, z2, z3, z4⟩ := hK.2.2.2.1 cT (zak_lt hc)
  have hL1 : 1 ≤ L := Nat.le_of_ble_eq_true hLv
  have hw8 := Nat.le_of_ble_eq_true hw
  have hU : ∃ c1 t1, s.vm.findClass ad = some c1 ∧ s.vm.findClass "java/lang/Cloneable" = some t1 ∧ s.vm.assignable c1 t1 = true := Cond.castable_spec (hK.2.1 _ l6 rfl)
  obtain ⟨c1, t1, y1, y2, y3⟩ := hU
  rw [had] at z1
  cases z1.symm.trans y1
  have hsz : (arrV (w.A cT) (hN h a) (fun j => zfv (zat cT) (hI h a j) (hL h a j) (hR h a j))).slots.size = hN h a := arrV_size _ _ _
  obtain ⟨vm', X', step⟩ := X.cloneArray f1 f6 (hK.hts args _ l1) (hK.hts args _ l2) (hK.hts args _ l3) (hK.hts args _ l4) (hK.hts args _ l5) (a := a) (cell := arrV (w.A cT) (hN h a) (fun j => zfv (zat cT) (hI h a j) (hL h a j) (hR h a j))) (by rw [hTh]; exact hA)
    (fun _ q => by cases q) (fun q => by cases q) y1 y2 y3
    (fun i v hv => by
      have e1 : T.fitsSlot (w.A cT) .none i v = s.fitsSlot (w.A cT) .none i v := by rw [← State.fitsSlot_setVm X.warmed.alike]; rfl
      refine e1.trans ?_
      have g1 := va_fit (ty := zat cT) hfit i v hv
      simpa [State.fitsSlot, State.slotType?, z2, z3] using g1)
    (g := F0 m pc lsA (.ref a :: st)) rfl (by rw [f3]; exact hl.1) (rest := st) rfl (by rw [f2]; exact d) (by omega) (by show 2 * 0 + _ + _ ≤ _; omega) (by omega) (by rw [hsz]; omega) (Vm.clonesLoader_of_array z2 z3)
  have hz : H.size = hZ h := a1.1
  have hheap : ((T.setVm vm').pushCell { cls := w.A cT, slots := (arrV (w.A cT) (hN h a) (fun j => zfv (zat cT) (hI h a j) (hL h a j) (hR h a j))).slots }).heap = H.push (arrV (w.A cT) (hN h a) (fun j => zfv (zat cT) (hI h a j) (hL h a j) (hR h a j))) := by rw [← hTh]; rfl
  have hR1 : RelH w (nwc h (κ' + 1000 * g) a) (H.push (arrV (w.A cT) (hN h a) (fun j => zfv (zat cT) (hI h a j) (hL h a j) (hR h a j)))) := by
    refine a1.newc (by rw [Array.size_push, hz]) (fun q hq => by rw [Array.getElem?_push]; rw [if_neg (by omega)]) ?_
    have hκ : κ' < 650 := Nat.le_of_ble_eq_true hm
    have hT1 : zkd (hT (nwc h (κ' + 1000 * g) a) (hZ h)) = κ' := by
      show zkd (va_up (hT h) (hZ h) (κ' + 1000 * g) (hZ h)) = κ'
      rw [va_up_self]
      unfold zkd
      omega
    have hκ1 : 100 ≤ κ' ∧ (κ' - 100) / 50 = cT := by
      unfold zak at hc'
      split at hc'
      · rename_i g1
        first | (rw [if_pos hκ] at hc'; cases hc'; exact ⟨g1, rfl⟩) | (cases hc'; exact ⟨g1, rfl⟩)
      · cases hc'
    have hAB : zAB w cT (nwc h (κ' + 1000 * g) a) (H.push (arrV (w.A cT) (hN h a) (fun j => zfv (zat cT) (hI h a j) (hL h a j) (hR h a j)))) (hZ h) := by
      unfold zAB
      have e1 : hN (nwc h (κ' + 1000 * g) a) (hZ h) = hN h a := va_up_self _ _ _
      have e2 : hI (nwc h (κ' + 1000 * g) a) (hZ h) = hI h a := va_up_self _ _ _
      have e3 : hL (nwc h (κ' + 1000 * g) a) (hZ h) = hL h a := va_up_self _ _ _
      have e4 : hR (nwc h (κ' + 1000 * g) a) (hZ h) = hR h a := va_up_self _ _ _
      rw [e1, e2, e3, e4, ← hz, Array.getElem?_push_size]
    refine ⟨fun q => ?_, fun q1 q2 => ?_, fun q1 q2 => ?_⟩
    · rw [hT1] at q; omega
    · rw [hT1, hκ1.2]
      exact ⟨a1.2.1, hAB⟩
    · rw [hT1] at q1; omega
  have hzz : hZ h = T.heap.size := by rw [hTh, hz]
  rw [← hzz] at step
  rw [hsz] at X'
  obtain ⟨t2, b1, b2⟩ := kk p l e R s m args below meth c _ locs (cells + 1) (slots + hN h a) lsA F hR1 a2 a3 a4 (by omega) (by omega) hl _ hheap X'
  exact ⟨t2, step t2 b1, b2⟩
def zcln (cT g : Nat) (r : Option Nat) : M (Option Nat) := fun h => match r with
  | none => none
  | some a => if a < hZ h ∧ zqr cT (zkd (hT h a)) = true ∧ (∀ i, i < hN h a → fits (zat cT) (zfv (zat cT) (hI h a i) (hL h a i) (hR h a i)) = true) then some (some (hZ h), nwc h (100 + 50 * cT + 1000 * g) a, 1, hN h a) else none
theorem D_clone {β : Type} {x : β} {h1 : Hp} {c s cT g : Nat} {r : Option Nat} {ad : String} {G : Option Nat → M β} (d : Dc cc pc (.invokevirtual idx) 3 pc') (hc6 : Nat.blt cT 6 = true) (had : "[" ++ (zat cT).toString = ad) (l1 : Cond.methodLink mi.1.cls idx ⟨ad, "clone", "()Ljava/lang/Object;"⟩ ∈ lw_all) (l2 : Cond.sameMethod ad "java/lang/Object" "clone" "()Ljava/lang/Object;" ∈ lw_all)
    (l3 : Cond.native ⟨"java/lang/Object", "clone", "()Ljava/lang/Object;"⟩ ∈ lw_all) (l4 : Cond.instanceMethod ⟨"java/lang/Object", "clone", "()Ljava/lang/Object;"⟩ ∈ lw_all) (l5 : Cond.selects ad ⟨ad, "clone", "()Ljava/lang/Object;"⟩ ⟨"java/lang/Object", "clone", "()Ljava/lang/Object;"⟩ ∈ lw_all) (l6 : Cond.castable ad "java/lang/Cloneable" ∈ lw_tbl)
    (hLv : Nat.blt 0 L = true) (hw : Nat.ble (st.map fun v => v.category).sum 8 = true) (H : zbd (zcln cT g r) G h = some (x, h1, c, s))
    (kk : ∀ v h' c s, G v h' = some (x, h1, c, s) → V w mi cc L c s h' pc' ls (va_rf v :: st) Q) : V w mi cc L c s h pc ls (va_rf r :: st) Q := by
  obtain ⟨a, h', c1, s1, c2, s2, e1, e2, rfl, rfl⟩ := zbd_ok H
  unfold zcln at e1
  cases r with
  | none => cases e1
  | some a =>
    simp only at e1
    split at e1
    · rename_i q
      cases e1
      have h6 : cT < 6 := Nat.le_of_ble_eq_true hc6
      have hz1 : zak (100 + 50 * cT) = some cT := by
        unfold zak
        rw [if_pos (by omega), if_pos (by omega)]
        congr 1
        omega
      exact V_clone (100 + 50 * cT) g d had l1 l2 l3 l4 l5 l6 q.1 rfl (zqr_ok q.2.1) hz1 (Nat.ble_eq_true_of_le (by omega)) q.2.2 hLv hw (kk _ _ _ _ e2)
    · cases e1
/-! a cast to an array's own type -/
theorem V_castA {a κ cT : Nat} {ad : String} (d : Dc cc pc (.checkcast idx) 3 pc') (l1 : Cond.classLink mi.1.cls idx ad ∈ lw_all) (had : "[" ++ (zat cT).toString = ad) (ha : a < hZ h) (hk : zkd (hT h a) = κ) (hc : zak κ = some cT)
    (kk : V w mi cc L cb sb h pc' ls (.ref a :: st) Q) : V w mi cc L cb sb h pc ls (.ref a :: st) Q := by
  obtain ⟨d, rfl⟩ := d
  intro p l e R s m args below meth c H locs cells slots lsA F a1 a2 a3 a4 a5 a6 hl T hTh X
  obtain ⟨f1, f2, f3, -, -, f6, -, hK, -⟩ := id F
  have hA := a1.arr ha hk hc
  obtain ⟨z1, kA, comp, z2, z3, z4⟩ := hK.2.2.2.1 cT (zak_lt hc)
  rw [had] at z1
  obtain ⟨vm', X', step⟩ := X.checkcast f1 f6 (hK.hts args _ l1) (a := a) (cell := arrV (w.A cT) (hN h a) (fun j => zfv (zat cT) (hI h a j) (hL h a j) (hR h a j))) (by rw [hTh]; exact hA) (fun _ q => by cases q) z2 z1 (va_asg _ _) (g := F0 m pc lsA (.ref a :: st)) rfl (rest := st) rfl (by rw [f2]; exact d)
  obtain ⟨t2, b1, b2⟩ := kk p l e R s m args below meth c H locs cells slots lsA F a1 a2 a3 a4 a5 a6 hl (T.setVm vm') hTh X'
  exact ⟨t2, step t2 b1, b2⟩
def zcA (cT : Nat) (r : Option Nat) : M Unit := fun h => match r with
  | none => some ((), h, 0, 0)
  | some a => if a < hZ h ∧ zqr cT (zkd (hT h a)) = true then some ((), h, 0, 0) else none
theorem D_castA {β : Type} {x : β} {h1 : Hp} {c s cT : Nat} {r : Option Nat} {ad : String} {G : Unit → M β} (d : Dc cc pc (.checkcast idx) 3 pc') (l1 : Cond.classLink mi.1.cls idx ad ∈ lw_all) (had : "[" ++ (zat cT).toString = ad) (H : zbd (zcA cT r) G h = some (x, h1, c, s)) (kk : G () h = some (x, h1, c, s) → V w mi cc L c s h pc' ls (va_rf r :: st) Q) : V w mi cc L c s h pc ls (va_rf r :: st) Q := by
  obtain ⟨a, h', c1, s1, c2, s2, e1, e2, rfl, rfl⟩ := zbd_ok H
  unfold zcA at e1
  cases r with
  | none => cases e1; exact V_checkcastN d (kk e2)
  | some b =>
    simp only at e1
    split at e1
    · rename_i hb
      cases e1
      exact V_castA d l1 had hb.1 rfl (zqr_ok hb.2) (kk e2)
    · cases e1
/-! class objects -/
theorem V_ldcM {C : String} {i : Nat} (d : Dc cc pc (.ldc idx) 2 pc') (l1 : Cond.classLink mi.1.cls idx C ∈ lw_all) (hi : (C = "java/util/ArrayList" ∧ i = 3) ∨ (C = "[Ljava/lang/Object;" ∧ i = 4)) (kk : V w mi cc L cb sb h pc' ls (va_rf (some (w.K i)) :: st) Q) : V w mi cc L cb sb h pc ls st Q := by
  obtain ⟨d, rfl⟩ := d
  intro p l e R s m args below meth c H locs cells slots lsA F a1 a2 a3 a4 a5 a6 hl
  obtain ⟨f1, f2, f3, -, -, f6, -, hK, -⟩ := id F
  have hM : va_Mi C (w.K i) s := by
    rcases hi with ⟨rfl, rfl⟩ | ⟨rfl, rfl⟩
    · exact hK.2.2.2.2.2.2.1
    · exact hK.2.2.2.2.2.2.2.1
  exact va_ldcM f1 f2 f6 (hK.hts args _ l1) hM d (kk p l e R s m args below meth c H locs cells slots lsA F a1 a2 a3 a4 a5 a6 hl)
/-- getClass() of an Object[] -/
theorem V_getCA {a κ : Nat} (d : Dc cc pc (.invokevirtual idx) 3 pc') (l1 : Cond.methodLink mi.1.cls idx ⟨"java/lang/Object", "getClass", "()Ljava/lang/Class;"⟩ ∈ lw_all) (l2 : Cond.declares ⟨"java/lang/Object", "getClass", "()Ljava/lang/Class;"⟩ ∈ lw_tbl) (l3 : Cond.selects "[Ljava/lang/Object;" ⟨"java/lang/Object", "getClass", "()Ljava/lang/Class;"⟩ ⟨"java/lang/Object", "getClass", "()Ljava/lang/Class;"⟩ ∈ lw_all)
    (l4 : Cond.instanceMethod ⟨"java/lang/Object", "getClass", "()Ljava/lang/Class;"⟩ ∈ lw_all) (l5 : Cond.native ⟨"java/lang/Object", "getClass", "()Ljava/lang/Class;"⟩ ∈ lw_all) (ha : a < hZ h) (hk : zkd (hT h a) = κ) (hc : zak κ = some 6) (hLv : Nat.blt 0 L = true) (hw : Nat.ble (st.map fun v => v.category).sum 8 = true)
    (kk : V w mi cc L cb sb h pc' ls (va_rf (some (w.K 4)) :: st) Q) : V w mi cc L cb sb h pc ls (.ref a :: st) Q := by
  obtain ⟨d, rfl⟩ := d
  intro p l e R s m args below meth c H locs cells slots lsA F a1 a2 a3 a4 a5 a6 hl
  obtain ⟨f1, f2, f3, -, -, f6, -, hK, -⟩ := id F
  have hA := a1.arr ha hk hc
  obtain ⟨z1, -⟩ := hK.2.2.2.1 6 (by decide)
  have hL1 : 1 ≤ L := Nat.le_of_ble_eq_true hLv
  have hw8 := Nat.le_of_ble_eq_true hw
  exact va_getC f1 f2 (by rw [f3]; exact hl.1.symm) f6 (hK.hts args _ l1) (va_Nw.use rfl (hK.2.1 _ l2 rfl)) (hK.hts args _ l3) (hK.hts args _ l4) (hK.hts args _ l5) hK.2.2.2.2.2.2.2.1 ⟨_, hA, rfl, z1⟩ (by omega) (by omega) d (kk p l e R s m args below meth c H locs cells slots lsA F a1 a2 a3 a4 a5 a6 hl)
def zgc6 (w : Wd) (r : Option Nat) : M (Option Nat) := fun h => match r with
  | none => none
  | some a => if a < hZ h ∧ zqr 6 (zkd (hT h a)) = true then some (some (w.K 4), h, 0, 0) else none
theorem D_getCA {β : Type} {x : β} {h1 : Hp} {c s : Nat} {r : Option Nat} {G : Option Nat → M β} (d : Dc cc pc (.invokevirtual idx) 3 pc') (l1 : Cond.methodLink mi.1.cls idx ⟨"java/lang/Object", "getClass", "()Ljava/lang/Class;"⟩ ∈ lw_all) (l2 : Cond.declares ⟨"java/lang/Object", "getClass", "()Ljava/lang/Class;"⟩ ∈ lw_tbl) (l3 : Cond.selects "[Ljava/lang/Object;" ⟨"java/lang/Object", "getClass", "()Ljava/lang/Class;"⟩ ⟨"java/lang/Object", "getClass", "()Ljava/lang/Class;"⟩ ∈ lw_all)
    (l4 : Cond.instanceMethod ⟨"java/lang/Object", "getClass", "()Ljava/lang/Class;"⟩ ∈ lw_all) (l5 : Cond.native ⟨"java/lang/Object", "getClass", "()Ljava/lang/Class;"⟩ ∈ lw_all) (hLv : Nat.blt 0 L = true) (hw : Nat.ble (st.map fun v => v.category).sum 8 = true) (H : zbd (zgc6 w r) G h = some (x, h1, c, s))
    (kk : ∀ v, G v h = some (x, h1, c, s) → V w mi cc L c s h pc' ls (va_rf v :: st) Q) : V w mi cc L c s h pc ls (va_rf r :: st) Q := by
  obtain ⟨a, h', c1, s1, c2, s2, e1, e2, rfl, rfl⟩ := zbd_ok H
  unfold zgc6 at e1
  cases r with
  | none => cases e1
  | some b =>
    simp only at e1
    split at e1
    · rename_i hb
      cases e1
      exact V_getCA d l1 l2 l3 l4 l5 hb.1 rfl (zqr_ok hb.2) hLv hw (kk _ e2)
    · cases e1
end NAT
