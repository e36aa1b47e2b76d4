theorem nI_ij {a b : Nat} (ha : a < 2 ^ 31) (hb : b < 2 ^ 31) (h : nI a = nI b) : a = b := by
  have := congrArg Int32.toNatClampNeg h
  rwa [nI_clamp ha, nI_clamp hb] at this
/-- the lets' places lie in the text -/
def RdC (a ln : Nat) (q : (Nat → Int32) × Int32 × Int32) : Prop := ∀ c, q.1 (10900 + a) = nI c → c ≤ 8 → ∀ l, l < c → ∃ sp, q.1 (11070 + (8 * a + l)) = nI sp ∧ sp ≤ ln
theorem RdC.mk {a ln : Nat} {x : Nat → Int32} {y z : Int32} (h : ∀ c, x (10900 + a) = nI c → c ≤ 8 → ∀ l, l < c → ∃ sp, x (11070 + (8 * a + l)) = nI sp ∧ sp ≤ ln) : RdC a ln (x, y, z) := h
theorem rd_leafC {S : Nat → Int32} {a ln lc s1 : Nat} (hl : lc < 8) (ha : a < 9) (h1 : s1 ≤ ln) (hp : ∀ l, l < lc → ∃ sp, S (11070 + (8 * a + l)) = nI sp ∧ sp ≤ ln) (x z : Int32) : ∀ c, va_up (va_up (va_up (va_up S (10910 + (8 * a + lc)) x) (11070 + (8 * a + lc)) (nI s1)) (10990 + (8 * a + lc)) z) (10900 + a) (nI lc + 1) (10900 + a) = nI c → c ≤ 8 → ∀ l, l < c → ∃ sp, va_up (va_up (va_up (va_up S (10910 + (8 * a + lc)) x) (11070 + (8 * a + lc)) (nI s1)) (10990 + (8 * a + lc)) z) (10900 + a) (nI lc + 1) (11070 + (8 * a + l)) = nI sp ∧ sp ≤ ln := by
  intro c hc hc8 l hlc
  rw [va_up_self, show (nI lc + 1 : Int32) = nI (lc + 1) from zadd rfl rfl] at hc
  have e : lc + 1 = c := nI_ij (by omega) (by omega) hc
  rw [va_up_ne _ _ (by omega), va_up_ne _ _ (by omega)]
  by_cases q : l = lc
  · subst q
    rw [va_up_self]
    exact ⟨s1, rfl, h1⟩
  · rw [va_up_ne _ _ (by omega), va_up_ne _ _ (by omega)]
    exact hp l (by omega)
theorem rd_cl {S : Nat → Int32} {A : Nat → Nat → Int32} {F : Nat → Int32} {a sp ln lc : Nat} (hs : sp ≤ ln) (hl : ln ≤ 140) (hc : lc < 8) (hlc : S (10900 + a) = nI lc) (ha : a < 9) (hp : ∀ l, l < lc → ∃ sp, S (11070 + (8 * a + l)) = nI sp ∧ sp ≤ ln) : RdC a ln (o_reads S A F a sp ln lc) := by
  obtain ⟨s1, h1, h1a, h1b, h1w, k, hk, hk7⟩ := ow_ok (S := S) (F := va_up (va_up (va_up F 5 (nI sp)) 6 (0 : Int32)) 7 (nI 0)) (a := a) (sp := sp) (ln := ln) hs hl rfl
  have e1 : ((o_oneWord S (va_up (va_up (va_up F 5 (nI sp)) 6 (0 : Int32)) 7 (nI 0)) a sp ln).2.1).toNatClampNeg = s1 := by rw [h1]; exact nI_clamp (by omega)
  have ek : ((o_oneWord S (va_up (va_up (va_up F 5 (nI sp)) 6 (0 : Int32)) 7 (nI 0)) a sp ln).1).toNatClampNeg = k := by rw [hk]; exact nI_clamp (by omega)
  have L := fun x z => rd_leafC (S := S) hc ha h1b hp x z
  simp only [o_reads, e1, ek]
  split
  · split
    · split
      · exact RdC.mk (L _ _)
      · split
        · exact RdC.mk (L _ _)
        · exact RdC.mk (L _ _)
    · split
      · exact RdC.mk (L _ _)
      · exact RdC.mk (L _ _)
  · refine RdC.mk (fun c h2 h3 l h4 => ?_)
    have e : lc = c := nI_ij (by omega) (by omega) (hlc.symm.trans h2)
    exact hp l (by omega)
theorem ro_some {A : Nat → Nat → Int32} {F : Nat → Int32} {a tp : Nat} {S1 : Nat → Int32} (htp4 : tp ≤ 140) {q r : (Nat → Int32) × Int32 × Int32} (hI : roI S1 a tp q) (hK : K_readsOrder_114 A F a tp q = some r) : ∃ u lc FF, lc < 8 ∧ q.1 (10900 + a) = nI lc ∧ u ≤ tp ∧ r.1 = (o_reads q.1 A FF a u tp lc).1 := by
  obtain ⟨u, hu1, hu2, hu3, lc, hqc, hlc8, hfr⟩ := hI
  have huc : q.2.1.toNatClampNeg = u := by rw [hu1]; exact nI_clamp (by omega)
  have hlcc : sn q.1 (10900 + a) = lc := sn_of hqc (by omega)
  simp only [K_readsOrder_114, huc, hlcc] at hK
  split at hK
  · next h6 =>
    split at hK
    · cases hK
    · next h8 =>
      have hlc7 : lc < 8 := nnle (a := 8) h8 (by omega) (by omega)
      split at hK
      · next h59 =>
        have hul := here_lt (a := a) (sp := u) (ln := tp) (S := q.1) (by rw [h59]; decide) (by omega) htp4
        generalize hFF : (va_up (va_up (va_up (va_up F 4 (nI a)) 5 (nI (u + 1))) 6 q.2.2) 7 (nI 0)) = FF at hK
        cases hK
        exact ⟨u + 1, lc, FF, hlc7, hqc, by omega, rfl⟩
      · cases hK
  · cases hK
/-- the order's tape copied -/
theorem ro_tape {a : Nat} {S : Nat → Int32} : ∀ n, n ≤ 140 → ∀ j, (j < 9640 + 140 * a ∨ 9780 + 140 * a ≤ j) → zfold (K_readsOrder_29 a) n S j = S j
  | 0, _, _, _ => rfl
  | n + 1, hn, j, hj => by
    rw [zfold_s]
    generalize hz : zfold (K_readsOrder_29 a) n S = z
    simp only [K_readsOrder_29]
    rw [va_up_ne _ _ (by omega), ← hz]
    exact ro_tape n (by omega) j hj
/-- what reading an order a leaves alone -/
def RoF (S S' : Nat → Int32) (a : Nat) : Prop := ∀ j, j ≠ 4 → j ≠ 9620 + a → j ≠ 9630 + a → (j < 9640 + 140 * a ∨ 9780 + 140 * a ≤ j) → j ≠ 10900 + a → (j < 10910 + 8 * a ∨ 10918 + 8 * a ≤ j) → (j < 10990 + 8 * a ∨ 10998 + 8 * a ≤ j) → (j < 11070 + 8 * a ∨ 11078 + 8 * a ≤ j) → S' j = S j
def Rok (S S' : Nat → Int32) (a tp : Nat) : Prop := RoF S S' a ∧ S' (9630 + a) = nI tp ∧ ∃ c, S' (10900 + a) = nI c ∧ c ≤ 8 ∧ ∀ l, l < c → ∃ sp, S' (11070 + (8 * a + l)) = nI sp ∧ sp ≤ tp
theorem ro_ok {S : Nat → Int32} {A : Nat → Nat → Int32} {F : Nat → Int32} {a tp : Nat} {day : Int32} (ha : a < 9) (htp4 : tp ≤ 140) : Rok S (o_readsOrder S A F a tp day).2.1 a tp := by
  obtain ⟨S3, hS3⟩ : ∃ T, T = va_up (va_up S (9620 + a) day) (9630 + a) (nI tp) := ⟨_, rfl⟩
  obtain ⟨z, hz⟩ : ∃ T, T = zfold (K_readsOrder_29 a) tp S3 := ⟨_, rfl⟩
  obtain ⟨S10, hS10⟩ : ∃ T, T = va_up (va_up z 4 (0 : Int32)) (10900 + a) (0 : Int32) := ⟨_, rfl⟩
  obtain ⟨FF, hFF⟩ : ∃ T, T = (va_up (va_up (va_up (va_up F 4 (nI a)) 5 (0 : Int32)) 6 (0 : Int32)) 7 (0 : Int32)) := ⟨_, rfl⟩
  have h0 : S10 (10900 + a) = nI 0 := by rw [hS10]; exact va_up_self _ _ _
  have hf10 : RoF S S10 a := by
    intro j j1 j2 j3 j4 j5 j6 j7 j8
    rw [hS10, va_up_ne _ _ j5, va_up_ne _ _ j1, hz, ro_tape tp htp4 j j4, hS3, va_up_ne _ _ j3, va_up_ne _ _ j2]
  have hn10 : S10 (9630 + a) = nI tp := by
    rw [hS10, va_up_ne _ _ (by omega), va_up_ne _ _ (by omega), hz, ro_tape tp htp4 _ (by omega), hS3]; exact va_up_self _ _ _
  obtain ⟨r, hr⟩ : ∃ r, r = o_reads S10 A FF a 0 tp 0 := ⟨_, rfl⟩
  have hrd : RdOk S10 a 0 tp 0 r := by rw [hr]; exact rd_ok (by omega) htp4 (by omega) h0 ha
  have hrc : RdC a tp r := by rw [hr]; exact rd_cl (by omega) htp4 (by omega) h0 ha (fun l q => absurd q (by omega))
  obtain ⟨s, g1, g2, g3, g4, c, g5, g6, g7, g8⟩ := hrd
  have hsc : r.2.1.toNatClampNeg = s := by rw [g1]; exact nI_clamp (by omega)
  have hI0 : roI S10 a tp (r.1, nI s, r.2.2) := ⟨s, rfl, g3, g4, c, g5, g6, g8⟩
  obtain ⟨⟨hE1, hE2⟩, _⟩ := zwh_end (K := K_readsOrder_114 A F a tp) (P := fun q => roI S10 a tp q ∧ RdC a tp q) (μ := roM a) (by
    rintro q r ⟨hq, hq2⟩ hK
    obtain ⟨p1, p2⟩ := ro_K htp4 ha hq hK
    refine ⟨⟨p1, ?_⟩, p2⟩
    obtain ⟨u, lc, F2, k1, k2, k3, k4⟩ := ro_some htp4 hq hK
    have := rd_cl (S := q.1) (A := A) (F := F2) (a := a) k3 htp4 k1 k2 ha (fun l hl => hq2 lc k2 (by omega) l hl)
    unfold RdC at this ⊢
    rw [k4]
    exact this) zBIG (r.1, nI s, r.2.2) ⟨hI0, hrc⟩ (roM_0 _ _)
  have e : (o_readsOrder S A F a tp day).2.1 = (zwh (K_readsOrder_114 A F a tp) zBIG (r.1, nI s, r.2.2)).1 := by
    simp only [o_readsOrder, ← hS3, ← hz, ← hS10, ← hFF, ← hr, hsc]
    generalize zwh (K_readsOrder_114 A F a tp) zBIG (r.1, nI s, r.2.2) = q
    split
    · split <;> rfl
    · rfl
  rw [e]
  generalize zwh (K_readsOrder_114 A F a tp) zBIG (r.1, nI s, r.2.2) = q at hE1 hE2
  obtain ⟨u, u1, u2, u3, c2, u4, u5, u6⟩ := hE1
  refine ⟨fun j j1 j2 j3 j4 j5 j6 j7 j8 => (u6 j j5 j6 j7 j8).trans (hf10 j j1 j2 j3 j4 j5 j6 j7 j8), (u6 _ (by omega) (by omega) (by omega) (by omega)).trans hn10, c2, u4, u5, hE2 c2 u4 u5⟩
