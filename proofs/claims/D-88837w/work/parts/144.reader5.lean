theorem num_y {S F : Nat → Int32} {x y z : Int32} {a s l : Nat} : o_number S (va_up (va_up (va_up F 5 x) 6 y) 7 z) a s l = o_number S (fun _ => y) a s l := rfl
theorem must_y {S F : Nat → Int32} {x y z c : Int32} {a s l : Nat} : o_must S (va_up (va_up (va_up F 5 x) 6 y) 7 z) a s l c = o_must S (fun _ => y) a s l c := rfl
theorem o_factorS_F {S F F' : Nat → Int32} {A : Nat → Nat → Int32} {a sp ln op : Nat} {rf rs : Nat → Int32 × Int32 × Int32} : o_factorS S A F a sp ln rf rs op = o_factorS S A F' a sp ln rf rs op := by
  simp only [o_factorS, D_factorS_278, num_y, must_y]
  rfl
section PWS
variable {S F : Nat → Int32} {A : Nat → Nat → Int32} {a ln op : Nat} {rf rs : Nat → Int32 × Int32 × Int32}
theorem PW_every (hl : ln ≤ 140) (hrf : PW ln rf) : PW ln (fun sp => o_everyS S a sp ln rf) := by
  intro sp hsp
  obtain ⟨s, h1, h2, h3, h4, h5⟩ := hrf sp hsp
  have hP : ∀ q r : Int32 × Int32 × Int32, (∃ u, q.2.1 = nI u ∧ sp ≤ u ∧ u ≤ ln ∧ (q.2.2 = 0 ∨ q.2.2 = 1) ∧ (q.1 = 0 ∨ q.1 = 1)) → K_everyS_5 S a ln rf q = some r → (∃ u, r.2.1 = nI u ∧ sp ≤ u ∧ u ≤ ln ∧ (r.2.2 = 0 ∨ r.2.2 = 1) ∧ (r.1 = 0 ∨ r.1 = 1)) ∧ 141 - r.2.1.toNatClampNeg < 141 - q.2.1.toNatClampNeg := by
    rintro q r ⟨u, g1, g2, g3, g4, g5⟩ hK
    have hc : q.2.1.toNatClampNeg = u := by rw [g1]; exact nI_clamp (by omega)
    simp only [K_everyS_5, hc] at hK
    split at hK
    · split at hK
      · next hch =>
        have hlt := here_lt (S := S) (a := a) (by rw [hch]; decide) g3 hl
        obtain ⟨v, k1, k2, k3, k4, k5⟩ := hrf (u + 1) (by omega)
        have hv : (rf (u + 1)).2.1.toNatClampNeg = v := by rw [k1]; exact nI_clamp (by omega)
        rw [hv] at hK
        have fin : ∀ b : Int32, (b = 0 ∨ b = 1) → some (b, nI v, (rf (u + 1)).2.2) = some r → (∃ u, r.2.1 = nI u ∧ sp ≤ u ∧ u ≤ ln ∧ (r.2.2 = 0 ∨ r.2.2 = 1) ∧ (r.1 = 0 ∨ r.1 = 1)) ∧ 141 - r.2.1.toNatClampNeg < 141 - q.2.1.toNatClampNeg := by
          intro b hb e
          cases e
          refine ⟨⟨v, rfl, by omega, by omega, k4, hb⟩, ?_⟩
          rw [hc]
          show 141 - (nI v).toNatClampNeg < _
          rw [nI_clamp (by omega)]
          omega
        split at hK
        · exact fin _ (Or.inl rfl) hK
        · split at hK
          · exact fin _ (Or.inl rfl) hK
          · exact fin _ (Or.inr rfl) hK
      · cases hK
    · cases hK
  have hs : (rf sp).2.1.toNatClampNeg = s := by rw [h1]; exact nI_clamp (by omega)
  obtain ⟨⟨u, g1, g2, g3, g4, g5⟩, -⟩ := zwh_end (K := K_everyS_5 S a ln rf) (P := fun q => ∃ u, q.2.1 = nI u ∧ sp ≤ u ∧ u ≤ ln ∧ (q.2.2 = 0 ∨ q.2.2 = 1) ∧ (q.1 = 0 ∨ q.1 = 1)) (μ := fun q => 141 - q.2.1.toNatClampNeg) hP zBIG ((rf sp).1, nI s, (rf sp).2.2) ⟨s, rfl, h2, h3, h4, h5⟩ (by show 141 - _ ≤ 100000000; omega)
  refine ⟨u, ?_, g2, g3, ?_, ?_⟩
  all_goals simp only [o_everyS, hs]
  · rw [g1, nI_clamp (by omega)]
  · exact g4
  · exact g5
theorem PW_some (hl : ln ≤ 140) (hrf : PW ln rf) : PW ln (fun sp => o_someS S a sp ln rf) := by
  intro sp hsp
  obtain ⟨s, h1, h2, h3, h4, h5⟩ := hrf sp hsp
  have hP : ∀ q r : Int32 × Int32 × Int32, (∃ u, q.2.1 = nI u ∧ sp ≤ u ∧ u ≤ ln ∧ (q.2.2 = 0 ∨ q.2.2 = 1) ∧ (q.1 = 0 ∨ q.1 = 1)) → K_someS_5 S a ln rf q = some r → (∃ u, r.2.1 = nI u ∧ sp ≤ u ∧ u ≤ ln ∧ (r.2.2 = 0 ∨ r.2.2 = 1) ∧ (r.1 = 0 ∨ r.1 = 1)) ∧ 141 - r.2.1.toNatClampNeg < 141 - q.2.1.toNatClampNeg := by
    rintro q r ⟨u, g1, g2, g3, g4, g5⟩ hK
    have hc : q.2.1.toNatClampNeg = u := by rw [g1]; exact nI_clamp (by omega)
    simp only [K_someS_5, hc] at hK
    split at hK
    · split at hK
      · next hch =>
        have hlt := here_lt (S := S) (a := a) (by rw [hch]; decide) g3 hl
        obtain ⟨v, k1, k2, k3, k4, k5⟩ := hrf (u + 1) (by omega)
        have hv : (rf (u + 1)).2.1.toNatClampNeg = v := by rw [k1]; exact nI_clamp (by omega)
        rw [hv] at hK
        have fin : ∀ b : Int32, (b = 0 ∨ b = 1) → some (b, nI v, (rf (u + 1)).2.2) = some r → (∃ u, r.2.1 = nI u ∧ sp ≤ u ∧ u ≤ ln ∧ (r.2.2 = 0 ∨ r.2.2 = 1) ∧ (r.1 = 0 ∨ r.1 = 1)) ∧ 141 - r.2.1.toNatClampNeg < 141 - q.2.1.toNatClampNeg := by
          intro b hb e
          cases e
          refine ⟨⟨v, rfl, by omega, by omega, k4, hb⟩, ?_⟩
          rw [hc]
          show 141 - (nI v).toNatClampNeg < _
          rw [nI_clamp (by omega)]
          omega
        split at hK
        · split at hK
          · exact fin _ (Or.inl rfl) hK
          · exact fin _ (Or.inr rfl) hK
        · exact fin _ (Or.inr rfl) hK
      · cases hK
    · cases hK
  have hs : (rf sp).2.1.toNatClampNeg = s := by rw [h1]; exact nI_clamp (by omega)
  obtain ⟨⟨u, g1, g2, g3, g4, g5⟩, -⟩ := zwh_end (K := K_someS_5 S a ln rf) (P := fun q => ∃ u, q.2.1 = nI u ∧ sp ≤ u ∧ u ≤ ln ∧ (q.2.2 = 0 ∨ q.2.2 = 1) ∧ (q.1 = 0 ∨ q.1 = 1)) (μ := fun q => 141 - q.2.1.toNatClampNeg) hP zBIG ((rf sp).1, nI s, (rf sp).2.2) ⟨s, rfl, h2, h3, h4, h5⟩ (by show 141 - _ ≤ 100000000; omega)
  refine ⟨u, ?_, g2, g3, ?_, ?_⟩
  all_goals simp only [o_someS, hs]
  · rw [g1, nI_clamp (by omega)]
  · exact g4
  · exact g5
def pwR (ln sp : Nat) (t : Int32 × Int32 × Int32) : Prop := ∃ s, t.2.1 = nI s ∧ sp ≤ s ∧ s ≤ ln ∧ (t.2.2 = 0 ∨ t.2.2 = 1) ∧ (t.1 = 0 ∨ t.1 = 1)
theorem pwR.n {sp n : Nat} {v w : Int32} (h1 : sp ≤ n) (h2 : n ≤ ln) (hv : v = 0 ∨ v = 1) (hw : w = 0 ∨ w = 1) : pwR ln sp (v, nI n, w) := ⟨n, rfl, h1, h2, hw, hv⟩
theorem pwR.c {sp s : Nat} {v x w : Int32} (hx : x = nI s) (h1 : sp ≤ s) (h2 : s ≤ ln) (hl : ln ≤ 140) (hv : v = 0 ∨ v = 1) (hw : w = 0 ∨ w = 1) : pwR ln sp (v, nI x.toNatClampNeg, w) := by
  rw [hx, nI_clamp (by omega)]
  exact ⟨s, rfl, h1, h2, hw, hv⟩
theorem z01 : ((0 : Int32) = 0 ∨ (0 : Int32) = 1) := Or.inl rfl
theorem z11 : ((1 : Int32) = 0 ∨ (1 : Int32) = 1) := Or.inr rfl
theorem PW_D (hl : ln ≤ 140) {sp : Nat} (hsp : sp ≤ ln) {wh : Int32} (hw : ¬ wh = -1 → sp < ln) : pwR ln sp (D_factorS_278 S A F a sp ln op wh) := by
  have nn : ∀ (F : Nat → Int32) (n : Nat) (v : Int32), (v = 0 ∨ v = 1) → sp ≤ n → n ≤ ln → pwR ln sp (v, nI ((o_number S F a n ln).2.1).toNatClampNeg, (o_number S F a n ln).2.2) := fun F n v hv h1 h2 => by
    obtain ⟨s, k1, k2, k3, k4, -⟩ := num_ok (S := S) (F := F) (a := a) h2 hl
    exact pwR.c k1 (by omega) k3 hl hv k4
  simp only [D_factorS_278]
  split
  · split
    · split
      · exact nn _ _ _ z01 (by omega) (by omega)
      · exact nn _ _ _ z11 (by omega) (by omega)
    · split
      · exact nn _ _ _ z01 (by omega) (by omega)
      · exact nn _ _ _ z11 (by omega) (by omega)
  · next hw1 =>
    have h1 := hw hw1
    split
    · next hc =>
      have h2 := here_lt (S := S) (a := a) (by rw [hc]; decide) (show sp + 1 ≤ ln by omega) hl
      split
      · split
        · exact nn _ _ _ z01 (by omega) (by omega)
        · exact nn _ _ _ z11 (by omega) (by omega)
      · split
        · exact nn _ _ _ z01 (by omega) (by omega)
        · exact nn _ _ _ z11 (by omega) (by omega)
    · split
      · next hc =>
        have h2 := here_lt (S := S) (a := a) (by rw [hc]; decide) (show sp + 1 ≤ ln by omega) hl
        split
        · split
          · exact nn _ _ _ z01 (by omega) (by omega)
          · exact nn _ _ _ z11 (by omega) (by omega)
        · split
          · exact nn _ _ _ z01 (by omega) (by omega)
          · exact nn _ _ _ z11 (by omega) (by omega)
      · split
        · exact nn _ _ _ z01 (by omega) (by omega)
        · exact nn _ _ _ z11 (by omega) (by omega)
theorem PW_factor (hl : ln ≤ 140) (hrf : PW ln rf) (hrs : PW ln rs) : PW ln (fun sp => o_factorS S A F a sp ln rf rs op) := by
  intro sp hsp
  show pwR ln sp (o_factorS S A F a sp ln rf rs op)
  have mm : ∀ (F : Nat → Int32) (n : Nat) (v c : Int32), ¬ c = -1 → (v = 0 ∨ v = 1) → sp ≤ n → n ≤ ln → pwR ln sp (v, nI ((o_must S F a n ln c).1).toNatClampNeg, (o_must S F a n ln c).2) := fun F n v c hc hv h1 h2 => by
    obtain ⟨s, k1, k2, k3, k4, -⟩ := must_ok (S := S) (F := F) (a := a) h2 hl hc
    exact pwR.c k1 (by omega) k3 hl hv k4
  have hh : ∀ c : Int32, o_here S a sp ln = c → ¬ c = -1 → sp < ln := fun c hc h => here_lt (by rw [hc]; exact h) hsp hl
  simp only [o_factorS]
  split
  · next c0 =>
    have h0 := hh _ c0 (by decide)
    obtain ⟨s, k1, k2, k3, k4, k5⟩ := hrf (sp + 1) (by omega)
    have ks : (rf (sp + 1)).2.1.toNatClampNeg = s := by rw [k1]; exact nI_clamp (by omega)
    split
    · split
      · exact mm _ _ _ _ (by decide) z01 (by omega) (by omega)
      · exact pwR.n (by omega) (by omega) z01 z11
    · rw [ks]
      split
      · split
        · exact mm _ _ _ _ (by decide) z11 (by omega) (by omega)
        · exact pwR.n (by omega) (by omega) z11 k4
      · split
        · exact mm _ _ _ _ (by decide) z01 (by omega) (by omega)
        · exact pwR.n (by omega) (by omega) z01 k4
  · split
    · next c0 =>
      have h0 := hh _ c0 (by decide)
      split
      · exact mm _ _ _ _ (by decide) z01 (by omega) (by omega)
      · obtain ⟨s, k1, k2, k3, k4, k5⟩ := hrs (sp + 1) (by omega)
        have ks : (rs (sp + 1)).2.1.toNatClampNeg = s := by rw [k1]; exact nI_clamp (by omega)
        rw [ks]
        exact mm _ _ _ _ (by decide) k5 (by omega) (by omega)
    · split
      · next c0 =>
        have h0 := hh _ c0 (by decide)
        obtain ⟨s, k1, k2, k3, k4, -⟩ := must_ok (S := S) (F := va_up (va_up (va_up F 5 (nI (sp + 1))) 6 (0 : Int32)) 7 (nI op)) (a := a) (sp := sp + 1) (ln := ln) (c := 61) (by omega) hl (by decide)
        have ks : (o_must S (va_up (va_up (va_up F 5 (nI (sp + 1))) 6 (0 : Int32)) 7 (nI op)) a (sp + 1) ln 61).1.toNatClampNeg = s := by rw [k1]; exact nI_clamp (by omega)
        rw [ks]
        split
        · split
          · split
            · exact pwR.n (by omega) (by omega) z11 z11
            · exact pwR.n (by omega) (by omega) z01 z11
          · next c2 =>
            have h2 := here_lt (S := S) (a := a) (sp := s) (ln := ln) (fun q => c2 (by rw [q]; decide)) k3 hl
            split
            · exact pwR.n (by omega) (by omega) z11 z01
            · exact pwR.n (by omega) (by omega) z01 z01
        · split
          · exact pwR.n (by omega) (by omega) z11 z11
          · exact pwR.n (by omega) (by omega) z01 z11
      · split
        · next c => exact PW_D hl hsp (fun _ => hh _ c (by decide))
        · split
          · next c => exact PW_D hl hsp (fun _ => hh _ c (by decide))
          · split
            · next c => exact PW_D hl hsp (fun _ => hh _ c (by decide))
            · split
              · next c => exact PW_D hl hsp (fun _ => hh _ c (by decide))
              · split
                · next c => exact PW_D hl hsp (fun _ => hh _ c (by decide))
                · exact PW_D hl hsp (fun q => absurd rfl q)
end PWS
/-- the reader's parts by how deep they may still open -/
def z_fac (S : Nat → Int32) (A : Nat → Nat → Int32) (a ln : Nat) : Nat → Nat → Int32 × Int32 × Int32
  | 0, sp => o_factorS S A (fun _ => 0) a sp ln (fun s => (0, nI s, 0)) (fun s => (0, nI s, 0)) 5
  | r + 1, sp => o_factorS S A (fun _ => 0) a sp ln (z_fac S A a ln r) (fun s => o_someS S a s ln (fun s => o_everyS S a s ln (z_fac S A a ln r))) (5 - (r + 1))
def z_evy (S : Nat → Int32) (A : Nat → Nat → Int32) (a ln r : Nat) : Nat → Int32 × Int32 × Int32 := fun sp => o_everyS S a sp ln (z_fac S A a ln r)
def z_som (S : Nat → Int32) (A : Nat → Nat → Int32) (a ln r : Nat) : Nat → Int32 × Int32 × Int32 := fun sp => o_someS S a sp ln (z_evy S A a ln r)
theorem z_fac_PW {S : Nat → Int32} {A : Nat → Nat → Int32} {a ln : Nat} (hl : ln ≤ 140) : ∀ r, PW ln (z_fac S A a ln r)
  | 0 => PW_factor hl (fun sp h => ⟨sp, rfl, by omega, h, Or.inl rfl, Or.inl rfl⟩) (fun sp h => ⟨sp, rfl, by omega, h, Or.inl rfl, Or.inl rfl⟩)
  | r + 1 => PW_factor hl (z_fac_PW hl r) (PW_some hl (PW_every hl (z_fac_PW hl r)))
theorem z_som_PW {S : Nat → Int32} {A : Nat → Nat → Int32} {a ln : Nat} (hl : ln ≤ 140) (r : Nat) : PW ln (z_som S A a ln r) := PW_some hl (PW_every hl (z_fac_PW hl r))
section PCS
variable {w : Wd} {h : Hp} {m : Nat} {ad : Nat → Nat} {A : Nat → Nat → Int32} {S : Nat → Int32} {a ln : Nat}
theorem PC_every (mb : MB h m ad) (ha : a < 9) (hln : S (9630 + a) = nI ln) (hln4 : ln ≤ 140) {op d : Nat} (hd : 4 ≤ d) {rf : Nat → Int32 × Int32 × Int32} (IH : PC w h m S A a ln op mX2_factor cX2_factor d rf) (hrf : PW ln rf) : PC w h m S A a ln op mX2_every cX2_every (d + 1) (fun sp => o_everyS S a sp ln rf) :=
  fun {sp} hsp {B F} h4 h5 h6 h7 => c_everyS mb h4 ha h5 hsp hln hln4 h6 h7 hd rf IH hrf
theorem PC_some (mb : MB h m ad) (ha : a < 9) (hln : S (9630 + a) = nI ln) (hln4 : ln ≤ 140) {op d : Nat} (hd : 4 ≤ d) {rf : Nat → Int32 × Int32 × Int32} (IH : PC w h m S A a ln op mX2_every cX2_every d rf) (hrf : PW ln rf) : PC w h m S A a ln op mX2_some cX2_some (d + 1) (fun sp => o_someS S a sp ln rf) :=
  fun {sp} hsp {B F} h4 h5 h6 h7 => c_someS mb h4 ha h5 hsp hln hln4 h6 h7 hd rf IH hrf
theorem PC_fac (mb : MB h m ad) (ha : a < 9) (hln : S (9630 + a) = nI ln) (hln4 : ln ≤ 140) : ∀ r, r ≤ 5 → PC w h m S A a ln (5 - r) mX2_factor cX2_factor (5 + 3 * r) (z_fac S A a ln r)
  | 0, _ => by
    intro hsp B F h4 h5 h6 h7
    have h1 := c_factorS (w := w) (A := A) (B := B) mb h4 ha h5 hsp hln hln4 h6 h7 (d := 4) (Nat.le_refl _) (fun s => (0, nI s, 0)) (fun s => (0, nI s, 0)) (fun q => absurd rfl q) (e := 4) (Nat.le_refl _) (fun q => absurd rfl q) (fun sp h => ⟨sp, rfl, by omega, h, Or.inl rfl, Or.inl rfl⟩) (fun sp h => ⟨sp, rfl, by omega, h, Or.inl rfl, Or.inl rfl⟩)
    rw [o_factorS_F (F' := fun _ => 0)] at h1
    exact h1
  | r + 1, hr => by
    intro hsp B F h4 h5 h6 h7
    have ih : PC w h m S A a ln (5 - r) mX2_factor cX2_factor (5 + 3 * r) (z_fac S A a ln r) := PC_fac mb ha hln hln4 r (by omega)
    have e : 5 - (r + 1) + 1 = 5 - r := by omega
    have pw := z_fac_PW (S := S) (A := A) (a := a) hln4 r
    have i1 : PC w h m S A a ln (5 - r) mX2_every cX2_every (5 + 3 * r + 1) (fun sp => o_everyS S a sp ln (z_fac S A a ln r)) := PC_every mb ha hln hln4 (by omega) ih pw
    have i2 : PC w h m S A a ln (5 - r) mX2_some cX2_some (5 + 3 * r + 1 + 1) (fun s => o_someS S a s ln (fun s => o_everyS S a s ln (z_fac S A a ln r))) := PC_some mb ha hln hln4 (by omega) i1 (PW_every hln4 pw)
    have h1 := c_factorS (w := w) (A := A) (B := B) mb h4 ha h5 hsp hln hln4 h6 h7 (d := 5 + 3 * r) (by omega) (z_fac S A a ln r) (fun s => o_someS S a s ln (fun s => o_everyS S a s ln (z_fac S A a ln r))) (fun _ => by rw [e]; exact ih) (e := 5 + 3 * r + 1 + 1) (by omega) (fun _ => by rw [e]; exact i2) pw (PW_some hln4 (PW_every hln4 pw))
    rw [o_factorS_F (F' := fun _ => 0)] at h1
    exact h1
/-- the whole of a let, from a place on -/
theorem PC_som (mb : MB h m ad) (ha : a < 9) (hln : S (9630 + a) = nI ln) (hln4 : ln ≤ 140) : PC w h m S A a ln 0 mX2_some cX2_some 22 (z_som S A a ln 5) :=
  PC_some mb ha hln hln4 (by omega) (PC_every mb ha hln hln4 (by omega) (PC_fac mb ha hln hln4 5 (Nat.le_refl _)) (z_fac_PW hln4 5)) (PW_every hln4 (z_fac_PW hln4 5))
end PCS
