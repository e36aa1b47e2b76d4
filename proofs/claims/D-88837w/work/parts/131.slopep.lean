section SL
variable {S : Nat → Int32} {fr to d : Int32} {L : Nat → Int32}
def slG (S : Nat → Int32) (fr to d : Int32) (L : Nat → Int32) (cur b : Nat) : Prop := zbes (nI cur) (nI b) = true ∧ ¬ L b = -1 ∧ ¬ o_canStep S cur b fr to d = 0 ∧ zstep S cur b + L b = L cur
def slS (L : Nat → Int32) (n : Int32) (W : Nat → Int32) : Prop := ∃ nn cur, n = nI (nn + 1) ∧ nn < 80 ∧ W nn = nI cur ∧ cur < 80 ∧ ¬ L cur = -1 ∧ nn + alt (lvM L) (sn L cur) ≤ 79
def slM (L : Nat → Int32) (n : Int32) (W : Nat → Int32) : Nat := alt (lvM L) (sn L (sn W (n.toNatClampNeg - 1)))
theorem slM_0 (L : Nat → Int32) (n : Int32) (W : Nat → Int32) : slM L n W ≤ zBIG := by
  have := alt_le (lvM L) (sn L (sn W (n.toNatClampNeg - 1)))
  show slM L n W ≤ 100000000
  unfold slM
  omega
theorem alt_79 {X : Nat → Option Nat} {c v : Nat} (hc : c < 80) (hv : X c = some v) : alt X v ≤ 79 := by
  have h1 : alt X v < nsum (fun _ => 1) 80 := nsum_lt (a := c) hc (fun _ _ => zite1 _) (by
    rw [hv]
    show (if decide (v < v) = true then 1 else 0) < 1
    rw [if_neg (by simp)]
    omega)
  have h2 : nsum (fun _ => 1) 80 ≤ 1 * 80 := nsum_k 80 (fun _ _ => Nat.le_refl _)
  omega
theorem sl_0 {w : Nat → Int32} {ca : Nat} (ha : ca < 80) (hL : ¬ L ca = -1) (j : wkJ S fr to d L) (hw : w 0 = nI ca) : slS L 1 w :=
  ⟨0, ca, rfl, by omega, hw, ha, hL, by have := alt_79 ha (lvM_of ha hL); omega⟩
theorem sl_ex (j : wkJ S fr to d L) (hs : aSb (eM S fr to d) (wN S) (lvM L)) {cur : Nat} (hc : cur < 80) (hne : cur ≠ to.toNatClampNeg) (hL : ¬ L cur = -1) : ∃ b, b < 80 ∧ slG S fr to d L cur b := by
  obtain ⟨-, b, u, hb, he, hu, hw⟩ := a_next j.2.2.2 hs hne (lvM_of hc hL)
  obtain ⟨h1, h2, h3⟩ := lvM_some hu
  refine ⟨b, hb, eM_bes he, h2, he, ?_⟩
  rw [(zstep_n j.1 hc hb).1, (j.bd hb h2).1, nI_add, (j.bd hc hL).1, h3, hw]
theorem slG_lt (j : wkJ S fr to d L) {cur c : Nat} (hc : cur < 80) (hL : ¬ L cur = -1) (h8 : c < 80) (g : slG S fr to d L cur c) : sn L c < sn L cur := by
  obtain ⟨g1, g2, g3, g4⟩ := g
  obtain ⟨w1, w2, w3⟩ := zstep_n j.1 hc h8
  obtain ⟨b1, b2⟩ := j.bd hc hL
  obtain ⟨c1, c2⟩ := j.bd h8 g2
  rw [w1, c1, nI_add, b1] at g4
  have := neq g4 (by omega) (by omega)
  omega
theorem sl_st (j : wkJ S fr to d L) {n : Int32} {W W' : Nat → Int32} {nn cur c : Nat} (hn : n = nI (nn + 1)) (hn2 : nn < 80) (hcu : W nn = nI cur) (hc : cur < 80) (hL : ¬ L cur = -1) (hcnt : nn + alt (lvM L) (sn L cur) ≤ 79) (g : slG S fr to d L cur c) (h8 : c < 80) (hW : W' = va_up W (nn + 1) (nI c)) : slS L (n + 1) W' := by
  have h1 := slG_lt j hc hL h8 g
  have h2 := alt_lt h8 (lvM_of h8 g.2.1) h1
  exact ⟨nn + 1, c, by rw [hn, nI_1], by omega, by rw [hW]; exact va_up_self _ _ _, h8, g.2.1, by omega⟩
theorem sl_M (j : wkJ S fr to d L) {n : Int32} {W W' : Nat → Int32} {nn cur c : Nat} (hn : n = nI (nn + 1)) (hn2 : nn < 80) (hcu : W nn = nI cur) (hc : cur < 80) (hL : ¬ L cur = -1) (hcnt : nn + alt (lvM L) (sn L cur) ≤ 79) (g : slG S fr to d L cur c) (h8 : c < 80) (hW : W' = va_up W (nn + 1) (nI c)) : slM L (n + 1) W' < slM L n W := by
  have h1 := slG_lt j hc hL h8 g
  have h2 := alt_lt h8 (lvM_of h8 g.2.1) h1
  have e1 : (n + 1).toNatClampNeg - 1 = nn + 1 := by rw [hn, nI_1, nI_clamp (by omega)]; omega
  have e2 : n.toNatClampNeg - 1 = nn := by rw [hn, nI_clamp (by omega)]; omega
  have e3 : sn W' (nn + 1) = c := sn_of (by rw [hW]; exact va_up_self _ _ _) (by omega)
  have e4 : sn W nn = cur := sn_of hcu (by omega)
  unfold slM
  rw [e1, e2, e3, e4]
  exact h2
theorem what10 {x : Int32} (h1 : ¬ x < 0) (h2 : zin x 2 9 = 0) (h3 : ¬ x = 0) (h4 : ¬ x = 1) : ∃ k, k + 10 < 2 ^ 31 ∧ x = nI (k + 10) := by
  obtain ⟨j, hj, rfl⟩ := nI_of h1
  have a1 : j ≠ 0 := fun q => h3 (by rw [q]; rfl)
  have a2 : j ≠ 1 := fun q => h4 (by rw [q]; rfl)
  have a3 : ¬ (2 ≤ j ∧ j ≤ 9) := fun q => zin_0.mp h2 ⟨(nI_leI (a := 2) (by omega) hj).mpr q.1, (nI_leI (b := 9) hj (by omega)).mpr q.2⟩
  exact ⟨j - 10, by omega, by congr 1; omega⟩
end SL
