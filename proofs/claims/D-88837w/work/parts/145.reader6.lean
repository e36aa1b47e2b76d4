def o_reads (S : Nat → Int32) (A : Nat → Nat → Int32) (F : Nat → Int32) (a : Nat) (sp : Nat) (ln : Nat) (lc : Nat) : (Nat → Int32) × Int32 × Int32 :=
  let s1 := ((o_oneWord S (va_up (va_up (va_up F 5 (nI sp)) 6 (0 : Int32)) 7 (nI 0)) a sp ln).2.1).toNatClampNeg
  if (o_oneWord S (va_up (va_up (va_up F 5 (nI sp)) 6 (0 : Int32)) 7 (nI 0)) a sp ln).2.2 = 0 then
    let wd := ((o_oneWord S (va_up (va_up (va_up F 5 (nI sp)) 6 (0 : Int32)) 7 (nI 0)) a sp ln).1).toNatClampNeg
    let S_2 := va_up S (10910 + ((8 * a) + lc)) (nI wd)
    let S_5 := va_up S_2 (11070 + ((8 * a) + lc)) (nI s1)
    if (nI wd) = (5 : Int32) then
      if (o_here S_5 a s1 ln) = (121 : Int32) then
        let S_20 := va_up S_5 (10990 + ((8 * a) + lc)) (1 : Int32)
        let S_23 := va_up S_20 (10900 + a) ((nI lc) + (1 : Int32))
        (S_23, (nI (s1 + 1)), (0 : Int32))
      else
        if (o_here S_5 a s1 ln) = (110 : Int32) then
          let S_25 := va_up S_5 (10990 + ((8 * a) + lc)) (0 : Int32)
          let S_28 := va_up S_25 (10900 + a) ((nI lc) + (1 : Int32))
          (S_28, (nI (s1 + 1)), (0 : Int32))
        else
          let S_30 := va_up S_5 (10990 + ((8 * a) + lc)) (0 : Int32)
          let S_33 := va_up S_30 (10900 + a) ((nI lc) + (1 : Int32))
          (S_33, (nI (s1 + 0)), (1 : Int32))
    else
      if (nI wd) = (6 : Int32) then
        let s14 := ((z_som S_5 A a ln 5 s1).2.1).toNatClampNeg
        let S_15 := va_up S_5 (10990 + ((8 * a) + lc)) (1 : Int32)
        let S_18 := va_up S_15 (10900 + a) ((nI lc) + (1 : Int32))
        (S_18, (nI s14), (z_som S_5 A a ln 5 s1).2.2)
      else
        let s8 := ((o_number S_5 (va_up (va_up (va_up F 5 (nI s1)) 6 (o_oneWord S (va_up (va_up (va_up F 5 (nI sp)) 6 (0 : Int32)) 7 (nI 0)) a sp ln).2.2) 7 (nI 0)) a s1 ln).2.1).toNatClampNeg
        let S_9 := va_up S_5 (10990 + ((8 * a) + lc)) (o_number S_5 (va_up (va_up (va_up F 5 (nI s1)) 6 (o_oneWord S (va_up (va_up (va_up F 5 (nI sp)) 6 (0 : Int32)) 7 (nI 0)) a sp ln).2.2) 7 (nI 0)) a s1 ln).1
        let S_12 := va_up S_9 (10900 + a) ((nI lc) + (1 : Int32))
        (S_12, (nI s8), (o_number S_5 (va_up (va_up (va_up F 5 (nI s1)) 6 (o_oneWord S (va_up (va_up (va_up F 5 (nI sp)) 6 (0 : Int32)) 7 (nI 0)) a sp ln).2.2) 7 (nI 0)) a s1 ln).2.2)
  else
    (S, (nI s1), (o_oneWord S (va_up (va_up (va_up F 5 (nI sp)) 6 (0 : Int32)) 7 (nI 0)) a sp ln).2.2)
theorem zfi_lt {p : Nat → Bool} : ∀ {n k : Nat}, zfi p n = some k → k < n
  | 0, k, h => by cases h
  | n + 1, k, h => by
    unfold zfi at h
    split at h
    · next j hj => cases h; have := zfi_lt hj; omega
    · split at h
      · cases h; omega
      · cases h
theorem ow_ok {S F : Nat → Int32} {a sp ln : Nat} (hs : sp ≤ ln) (hl : ln ≤ 140) (hF : F 6 = 0) : ∃ s, (o_oneWord S F a sp ln).2.1 = nI s ∧ sp ≤ s ∧ s ≤ ln ∧ ((o_oneWord S F a sp ln).2.2 = 0 ∨ (o_oneWord S F a sp ln).2.2 = 1) ∧ ∃ k, (o_oneWord S F a sp ln).1 = nI k ∧ k < 7 := by
  have hP : ∀ q r : Int32 × Int32 × Int32, (∃ n, q.2.1 = nI n ∧ q.2.2 = nI (sp + n) ∧ n ≤ 7 ∧ sp + n ≤ ln) → K_oneWord_5 S a sp ln q = some r → (∃ n, r.2.1 = nI n ∧ r.2.2 = nI (sp + n) ∧ n ≤ 7 ∧ sp + n ≤ ln) ∧ 8 - r.2.1.toNatClampNeg < 8 - q.2.1.toNatClampNeg := by
    rintro q r ⟨n, h1, h2, h3, h4⟩ hK
    have hc : q.2.1.toNatClampNeg = n := by rw [h1]; exact nI_clamp (by omega)
    simp only [K_oneWord_5, hc] at hK
    split at hK
    · cases hK
    · next h0 =>
      obtain ⟨k, hk, g1, g2⟩ := ow_left h3 rfl h0
      have h7 := sln_le k hk
      have hlt := here_lt (S := S) (a := a) (sp := sp + n) (ln := ln) (by rw [← g2]; exact nIneg (by have := sby_lt k hk n (by omega); omega)) h4 hl
      split at hK
      · cases hK
      · cases hK
        refine ⟨⟨n + 1, rfl, rfl, by omega, by omega⟩, ?_⟩
        rw [hc]
        show 8 - (nI (n + 1)).toNatClampNeg < _
        rw [nI_clamp (by omega)]
        omega
  obtain ⟨⟨n, h1, h2, h3, h4⟩, hN⟩ := zwh_end (K := K_oneWord_5 S a sp ln) (P := fun q => ∃ n, q.2.1 = nI n ∧ q.2.2 = nI (sp + n) ∧ n ≤ 7 ∧ sp + n ≤ ln) (μ := fun q => 8 - q.2.1.toNatClampNeg) hP zBIG ((127 : Int32), (0 : Int32), nI sp) ⟨0, rfl, rfl, by omega, by omega⟩ (by show 8 - _ ≤ 100000000; omega)
  unfold o_oneWord
  generalize zwh (K_oneWord_5 S a sp ln) zBIG ((127 : Int32), (0 : Int32), nI sp) = q at h1 h2 hN ⊢
  have hc : q.2.1.toNatClampNeg = n := by rw [h1]; exact nI_clamp (by omega)
  simp only [K_oneWord_5, hc] at hN
  simp only [K_oneWord_5_E, hc]
  split at hN
  · next h0 =>
    rw [if_pos h0]
    exact ⟨sp + n, rfl, by omega, by omega, Or.inr rfl, 0, rfl, by omega⟩
  · next h0 =>
    rw [if_neg h0]
    obtain ⟨k, hk, g1, g2⟩ := ow_left h3 rfl h0
    have h7 := sln_le k hk
    have hlt := here_lt (S := S) (a := a) (sp := sp + n) (ln := ln) (by rw [← g2]; exact nIneg (by have := sby_lt k hk n (by omega); omega)) h4 hl
    split at hN
    · next k' hz =>
      exact ⟨sp + n + 1, rfl, by omega, by omega, Or.inl hF, k', rfl, zfi_lt hz⟩
    · cases hN
theorem c_reads {w : Wd} {h : Hp} {m : Nat} {ad : Nat → Nat} {A : Nat → Nat → Int32} {B : Nat → Nat → Int64} {F S : Nat → Int32} (mb : MB h m ad) (a : Nat) {sp ln : Nat} (hF4 : F 4 = nI a) (ha : a < 9) (hF5 : F 5 = nI sp) (hsp : sp ≤ ln) (hln : S (9630 + a) = nI ln) (hln4 : ln ≤ 140) (hF6 : F 6 = 0) (hF7 : F 7 = nI 0) {lc : Nat} (hlc : S (10900 + a) = nI lc) (hlc8 : lc < 8) (sb : SB w h) : Con w mX2_reads cX2_reads 23 0 0 [.ref m, .int (nI a)] (ms h A B F S) (Ru (ms h A B (va_up (va_up (va_up F 5 (o_reads S A F a sp ln lc).2.1) 6 (o_reads S A F a sp ln lc).2.2) 7 (nI 0)) (o_reads S A F a sp ln lc).1)) := by
  refine Con.of (by decide +kernel) rfl rfl ?_
  show V w mX2_reads cX2_reads 23 0 0 _ 0 [some (.ref m), some (.int (nI a)), none, none, none] [] _
  rw [ms_extF (show F = (va_up (va_up (va_up F 5 (F 5)) 6 (F 6)) 7 (F 7)) from by
    funext q
    by_cases e5 : q = 5
    · subst e5; rfl
    by_cases e6 : q = 6
    · subst e6; rfl
    by_cases e7 : q = 7
    · subst e7; rfl
    simp only [va_up, if_neg e5, if_neg e6, if_neg e7])]
  rw [hF5]
  rw [hF6]
  rw [hF7]
  refine V_bipush (v := 8) (by decide) eX2_reads_0 ?_
  refine V_iload1 eX2_reads_2 ?_
  refine V_imul eX2_reads_3 ?_
  refine V_aload0 eX2_reads_4 rfl ?_
  refine M_ga mb rfl eX2_reads_5 fl_X2_8_2 ?_
  refine V_sipush (v := 10900) (by decide) eX2_reads_8 ?_
  refine V_iload1 eX2_reads_11 ?_
  refine V_iadd eX2_reads_12 ?_
  refine M_sl (n := (10900 + a)) mb (zadd rfl rfl) (by omega) hlc eX2_reads_13 ?_
  refine V_iadd eX2_reads_14 ?_
  refine V_istore2 rfl eX2_reads_15 rfl ?_
  refine V_aload0 eX2_reads_16 rfl ?_
  refine M_call mb eX2_reads_17 lmX2_oneWord q2005 q2007 rfl qs56 (c_oneWord mb (F := (va_up (va_up (va_up F 5 (nI sp)) 6 (0 : Int32)) 7 (nI 0))) (a := a) (sp := sp) (ln := ln) hF4 ha (show _ = nI sp from rfl) (by omega) hln hln4 sb) rfl rfl rfl rfl ?_
  rw [ms_extF (show (va_up (va_up (va_up (va_up (va_up F 5 (nI sp)) 6 (0 : Int32)) 7 (nI 0)) 5 (o_oneWord S (va_up (va_up (va_up F 5 (nI sp)) 6 (0 : Int32)) 7 (nI 0)) a sp ln).2.1) 6 (o_oneWord S (va_up (va_up (va_up F 5 (nI sp)) 6 (0 : Int32)) 7 (nI 0)) a sp ln).2.2) = (va_up (va_up (va_up F 5 (o_oneWord S (va_up (va_up (va_up F 5 (nI sp)) 6 (0 : Int32)) 7 (nI 0)) a sp ln).2.1) 6 (o_oneWord S (va_up (va_up (va_up F 5 (nI sp)) 6 (0 : Int32)) 7 (nI 0)) a sp ln).2.2) 7 (nI 0)) from by
      funext q
      by_cases e5 : q = 5
      · subst e5; rfl
      by_cases e6 : q = 6
      · subst e6; rfl
      by_cases e7 : q = 7
      · subst e7; rfl
      simp only [va_up, if_neg e5, if_neg e6, if_neg e7])]
  obtain ⟨s1, hs1, hs1a, hs1b, hs1w, hs1v⟩ := ow_ok (S := S) (F := (va_up (va_up (va_up F 5 (nI sp)) 6 (0 : Int32)) 7 (nI 0))) (a := a) (sp := sp) (ln := ln) (by omega) hln4 rfl
  have hs1c : ((o_oneWord S (va_up (va_up (va_up F 5 (nI sp)) 6 (0 : Int32)) 7 (nI 0)) a sp ln).2.1).toNatClampNeg = s1 := by rw [hs1]; exact nI_clamp (by omega)
  rw [hs1]
  refine V_istore3 rfl eX2_reads_20 rfl ?_
  refine V_aload0 eX2_reads_21 rfl ?_
  refine M_gi mb (Or.inr rfl) (show _ = (o_oneWord S (va_up (va_up (va_up F 5 (nI sp)) 6 (0 : Int32)) 7 (nI 0)) a sp ln).2.2 from rfl) eX2_reads_22 fl_X2_81_2 ?_
  refine V_ifeq eX2_reads_25 (fun c25 => ?_) (fun c25 => ?_)
  · obtain ⟨wd, hwd, hwd7⟩ := hs1v
    have hwdc : ((o_oneWord S (va_up (va_up (va_up F 5 (nI sp)) 6 (0 : Int32)) 7 (nI 0)) a sp ln).1).toNatClampNeg = wd := by rw [hwd]; exact nI_clamp (by omega)
    rw [hwd]
    refine V_aload0 eX2_reads_29 rfl ?_
    refine M_ga mb rfl eX2_reads_30 fl_X2_8_2 ?_
    refine V_sipush (v := 10910) (by decide) eX2_reads_33 ?_
    refine V_iload2 eX2_reads_36 ?_
    refine V_iadd eX2_reads_37 ?_
    refine V_iload3 eX2_reads_38 ?_
    refine M_ss (n := (10910 + ((8 * a) + lc))) mb (zadd rfl (zadd (zmul rfl rfl) rfl)) (by omega) eX2_reads_39 ?_
    obtain ⟨S_2, hS_2⟩ : ∃ T, T = va_up S (10910 + ((8 * a) + lc)) (nI wd) := ⟨_, rfl⟩
    rw [← hS_2]
    have hln_3 : S_2 (9630 + a) = (nI ln) := by rw [hS_2]; exact rdn (by omega) hln
    have hlc_4 : S_2 (10900 + a) = (nI lc) := by rw [hS_2]; exact rdn (by omega) hlc
    refine V_aload0 eX2_reads_40 rfl ?_
    refine M_ga mb rfl eX2_reads_41 fl_X2_8_2 ?_
    refine V_sipush (v := 11070) (by decide) eX2_reads_44 ?_
    refine V_iload2 eX2_reads_47 ?_
    refine V_iadd eX2_reads_48 ?_
    refine V_aload0 eX2_reads_49 rfl ?_
    refine M_gi mb (Or.inl rfl) (show _ = (nI s1) from rfl) eX2_reads_50 fl_X2_75_2 ?_
    refine M_ss (n := (11070 + ((8 * a) + lc))) mb (zadd rfl (zadd (zmul rfl rfl) rfl)) (by omega) eX2_reads_53 ?_
    obtain ⟨S_5, hS_5⟩ : ∃ T, T = va_up S_2 (11070 + ((8 * a) + lc)) (nI s1) := ⟨_, rfl⟩
    rw [← hS_5]
    have hln_6 : S_5 (9630 + a) = (nI ln) := by rw [hS_5]; exact rdn (by omega) hln_3
    have hlc_7 : S_5 (10900 + a) = (nI lc) := by rw [hS_5]; exact rdn (by omega) hlc_4
    refine V_iload3 eX2_reads_54 ?_
    refine V_iconst (v := 5) (by decide) eX2_reads_55 ?_
    refine V_if_icmpne eX2_reads_56 (fun c56 => ?_) (fun c56 => ?_)
    · refine V_iload3 eX2_reads_134 ?_
      refine V_bipush (v := 6) (by decide) eX2_reads_135 ?_
      refine V_if_icmpne eX2_reads_137 (fun c137 => ?_) (fun c137 => ?_)
      · refine V_aload0 eX2_reads_160 rfl ?_
        refine M_ga mb rfl eX2_reads_161 fl_X2_8_2 ?_
        refine V_sipush (v := 10990) (by decide) eX2_reads_164 ?_
        refine V_iload2 eX2_reads_167 ?_
        refine V_iadd eX2_reads_168 ?_
        refine V_aload0 eX2_reads_169 rfl ?_
        refine M_call mb eX2_reads_170 lmX2_number q2083 q2085 rfl qs62 (c_number mb (F := (va_up (va_up (va_up F 5 (nI s1)) 6 (o_oneWord S (va_up (va_up (va_up F 5 (nI sp)) 6 (0 : Int32)) 7 (nI 0)) a sp ln).2.2) 7 (nI 0))) (a := a) (sp := s1) (ln := ln) hF4 ha (show _ = nI s1 from rfl) (by omega) hln_6 hln4) rfl rfl rfl rfl ?_
        rw [ms_extF (show (va_up (va_up (va_up (va_up (va_up F 5 (nI s1)) 6 (o_oneWord S (va_up (va_up (va_up F 5 (nI sp)) 6 (0 : Int32)) 7 (nI 0)) a sp ln).2.2) 7 (nI 0)) 5 (o_number S_5 (va_up (va_up (va_up F 5 (nI s1)) 6 (o_oneWord S (va_up (va_up (va_up F 5 (nI sp)) 6 (0 : Int32)) 7 (nI 0)) a sp ln).2.2) 7 (nI 0)) a s1 ln).2.1) 6 (o_number S_5 (va_up (va_up (va_up F 5 (nI s1)) 6 (o_oneWord S (va_up (va_up (va_up F 5 (nI sp)) 6 (0 : Int32)) 7 (nI 0)) a sp ln).2.2) 7 (nI 0)) a s1 ln).2.2) = (va_up (va_up (va_up F 5 (o_number S_5 (va_up (va_up (va_up F 5 (nI s1)) 6 (o_oneWord S (va_up (va_up (va_up F 5 (nI sp)) 6 (0 : Int32)) 7 (nI 0)) a sp ln).2.2) 7 (nI 0)) a s1 ln).2.1) 6 (o_number S_5 (va_up (va_up (va_up F 5 (nI s1)) 6 (o_oneWord S (va_up (va_up (va_up F 5 (nI sp)) 6 (0 : Int32)) 7 (nI 0)) a sp ln).2.2) 7 (nI 0)) a s1 ln).2.2) 7 (nI 0)) from by
            funext q
            by_cases e5 : q = 5
            · subst e5; rfl
            by_cases e6 : q = 6
            · subst e6; rfl
            by_cases e7 : q = 7
            · subst e7; rfl
            simp only [va_up, if_neg e5, if_neg e6, if_neg e7])]
        obtain ⟨s8, hs8, hs8a, hs8b, hs8w, hs8v⟩ := num_ok (S := S_5) (F := (va_up (va_up (va_up F 5 (nI s1)) 6 (o_oneWord S (va_up (va_up (va_up F 5 (nI sp)) 6 (0 : Int32)) 7 (nI 0)) a sp ln).2.2) 7 (nI 0))) (a := a) (sp := s1) (ln := ln) (by omega) hln4
        have hs8c : ((o_number S_5 (va_up (va_up (va_up F 5 (nI s1)) 6 (o_oneWord S (va_up (va_up (va_up F 5 (nI sp)) 6 (0 : Int32)) 7 (nI 0)) a sp ln).2.2) 7 (nI 0)) a s1 ln).2.1).toNatClampNeg = s8 := by rw [hs8]; exact nI_clamp (by omega)
        rw [hs8]
        refine M_ss (n := (10990 + ((8 * a) + lc))) mb (zadd rfl (zadd (zmul rfl rfl) rfl)) (by omega) eX2_reads_173 ?_
        obtain ⟨S_9, hS_9⟩ : ∃ T, T = va_up S_5 (10990 + ((8 * a) + lc)) (o_number S_5 (va_up (va_up (va_up F 5 (nI s1)) 6 (o_oneWord S (va_up (va_up (va_up F 5 (nI sp)) 6 (0 : Int32)) 7 (nI 0)) a sp ln).2.2) 7 (nI 0)) a s1 ln).1 := ⟨_, rfl⟩
        rw [← hS_9]
        have hln_10 : S_9 (9630 + a) = (nI ln) := by rw [hS_9]; exact rdn (by omega) hln_6
        have hlc_11 : S_9 (10900 + a) = (nI lc) := by rw [hS_9]; exact rdn (by omega) hlc_7
        refine V_aload0 eX2_reads_174 rfl ?_
        refine M_ga mb rfl eX2_reads_175 fl_X2_8_2 ?_
        refine V_sipush (v := 10900) (by decide) eX2_reads_178 ?_
        refine V_iload1 eX2_reads_181 ?_
        refine V_iadd eX2_reads_182 ?_
        refine V_dup2 rfl rfl eX2_reads_183 ?_
        refine M_sl (n := (10900 + a)) mb (zadd rfl rfl) (by omega) hlc_11 eX2_reads_184 ?_
        refine V_iconst (v := 1) (by decide) eX2_reads_185 ?_
        refine V_iadd eX2_reads_186 ?_
        refine M_ss (n := (10900 + a)) mb (zadd rfl rfl) (by omega) eX2_reads_187 ?_
        obtain ⟨S_12, hS_12⟩ : ∃ T, T = va_up S_9 (10900 + a) ((nI lc) + (1 : Int32)) := ⟨_, rfl⟩
        rw [← hS_12]
        have hln_13 : S_12 (9630 + a) = (nI ln) := by rw [hS_12]; exact rdn (by omega) hln_10
        have hE : (S_12, (nI s8), (o_number S_5 (va_up (va_up (va_up F 5 (nI s1)) 6 (o_oneWord S (va_up (va_up (va_up F 5 (nI sp)) 6 (0 : Int32)) 7 (nI 0)) a sp ln).2.2) 7 (nI 0)) a s1 ln).2.2) = o_reads S A F a sp ln lc := by simp only [o_reads, ← hS_2, ← hS_5, ← hS_9, ← hS_12, hs1c, hwdc, hs8c, if_pos c25, if_neg c56, if_neg c137]
        exact V_return (x := ()) eX2_reads_188 rfl (by rw [← hE]; exact ⟨rfl, rfl⟩)
      · refine V_aload0 eX2_reads_140 rfl ?_
        refine M_call mb eX2_reads_141 lmX2_some q2067 q2069 rfl qs58 (PC_som mb ha hln_6 hln4 (sp := s1) (by omega) (F := (va_up (va_up (va_up F 5 (nI s1)) 6 (o_oneWord S (va_up (va_up (va_up F 5 (nI sp)) 6 (0 : Int32)) 7 (nI 0)) a sp ln).2.2) 7 (nI 0))) hF4 (show _ = nI s1 from rfl) (show _ = 0 from c25) (show _ = nI 0 from rfl)) rfl rfl rfl rfl ?_
        rw [ms_extF (show (va_up (va_up (va_up (va_up (va_up (va_up F 5 (nI s1)) 6 (o_oneWord S (va_up (va_up (va_up F 5 (nI sp)) 6 (0 : Int32)) 7 (nI 0)) a sp ln).2.2) 7 (nI 0)) 5 (z_som S_5 A a ln 5 s1).2.1) 6 (z_som S_5 A a ln 5 s1).2.2) 7 (nI 0)) = (va_up (va_up (va_up F 5 (z_som S_5 A a ln 5 s1).2.1) 6 (z_som S_5 A a ln 5 s1).2.2) 7 (nI 0)) from by
            funext q
            by_cases e5 : q = 5
            · subst e5; rfl
            by_cases e6 : q = 6
            · subst e6; rfl
            by_cases e7 : q = 7
            · subst e7; rfl
            simp only [va_up, if_neg e5, if_neg e6, if_neg e7])]
        obtain ⟨s14, hs14, hs14a, hs14b, hs14w, hs14v⟩ := z_som_PW hln4 5 s1 (by omega)
        have hs14c : ((z_som S_5 A a ln 5 s1).2.1).toNatClampNeg = s14 := by rw [hs14]; exact nI_clamp (by omega)
        rw [hs14]
        refine V_istore4 rfl eX2_reads_144 rfl ?_
        refine V_aload0 eX2_reads_146 rfl ?_
        refine M_ga mb rfl eX2_reads_147 fl_X2_8_2 ?_
        refine V_sipush (v := 10990) (by decide) eX2_reads_150 ?_
        refine V_iload2 eX2_reads_153 ?_
        refine V_iadd eX2_reads_154 ?_
        refine V_iconst (v := 1) (by decide) eX2_reads_155 ?_
        refine M_ss (n := (10990 + ((8 * a) + lc))) mb (zadd rfl (zadd (zmul rfl rfl) rfl)) (by omega) eX2_reads_156 ?_
        obtain ⟨S_15, hS_15⟩ : ∃ T, T = va_up S_5 (10990 + ((8 * a) + lc)) (1 : Int32) := ⟨_, rfl⟩
        rw [← hS_15]
        have hln_16 : S_15 (9630 + a) = (nI ln) := by rw [hS_15]; exact rdn (by omega) hln_6
        have hlc_17 : S_15 (10900 + a) = (nI lc) := by rw [hS_15]; exact rdn (by omega) hlc_7
        refine V_goto eX2_reads_157 ?_
        refine V_aload0 eX2_reads_174 rfl ?_
        refine M_ga mb rfl eX2_reads_175 fl_X2_8_2 ?_
        refine V_sipush (v := 10900) (by decide) eX2_reads_178 ?_
        refine V_iload1 eX2_reads_181 ?_
        refine V_iadd eX2_reads_182 ?_
        refine V_dup2 rfl rfl eX2_reads_183 ?_
        refine M_sl (n := (10900 + a)) mb (zadd rfl rfl) (by omega) hlc_17 eX2_reads_184 ?_
        refine V_iconst (v := 1) (by decide) eX2_reads_185 ?_
        refine V_iadd eX2_reads_186 ?_
        refine M_ss (n := (10900 + a)) mb (zadd rfl rfl) (by omega) eX2_reads_187 ?_
        obtain ⟨S_18, hS_18⟩ : ∃ T, T = va_up S_15 (10900 + a) ((nI lc) + (1 : Int32)) := ⟨_, rfl⟩
        rw [← hS_18]
        have hln_19 : S_18 (9630 + a) = (nI ln) := by rw [hS_18]; exact rdn (by omega) hln_16
        have hE : (S_18, (nI s14), (z_som S_5 A a ln 5 s1).2.2) = o_reads S A F a sp ln lc := by simp only [o_reads, ← hS_2, ← hS_5, ← hS_15, ← hS_18, hs1c, hwdc, hs14c, if_pos c25, if_neg c56, if_pos c137]
        exact V_return (x := ()) eX2_reads_188 rfl (by rw [← hE]; exact ⟨rfl, rfl⟩)
    · refine V_aload0 eX2_reads_59 rfl ?_
      refine M_call mb eX2_reads_60 lmX2_here q2063 q2065 rfl qs57 (c_here mb (a := a) (sp := s1) (ln := ln) hF4 ha (show _ = nI s1 from rfl) (by omega) hln_6 hln4) rfl rfl rfl rfl ?_
      refine V_istore4 rfl eX2_reads_63 rfl ?_
      refine V_aload0 eX2_reads_65 rfl ?_
      refine V_iload4 eX2_reads_66 ?_
      refine V_bipush (v := 121) (by decide) eX2_reads_68 ?_
      refine V_if_icmpeq eX2_reads_70 (fun c70 => ?_) (fun c70 => ?_)
      · have hl3 := here_lt (a := a) (sp := s1) (ln := ln) (S := S_5) (by rw [c70]; decide) (by omega) hln4
        refine V_iconst (v := 0) (by decide) eX2_reads_84 ?_
        refine M_pz mb (Or.inl rfl) rfl (by decide) eX2_reads_85 fl_X2_81_2 ?_
        rw [ms_extF (show va_up (va_up (va_up (va_up F 5 (nI s1)) 6 (o_oneWord S (va_up (va_up (va_up F 5 (nI sp)) 6 (0 : Int32)) 7 (nI 0)) a sp ln).2.2) 7 (nI 0)) 6 (0 : Int32) = (va_up (va_up (va_up F 5 (nI s1)) 6 (0 : Int32)) 7 (nI 0)) from by
            funext q
            by_cases e5 : q = 5
            · subst e5; rfl
            by_cases e6 : q = 6
            · subst e6; rfl
            by_cases e7 : q = 7
            · subst e7; rfl
            simp only [va_up, if_neg e5, if_neg e6, if_neg e7])]
        refine V_aload0 eX2_reads_88 rfl ?_
        refine V_dup rfl eX2_reads_89 ?_
        refine M_gi mb (Or.inl rfl) (show _ = (nI s1) from rfl) eX2_reads_90 fl_X2_75_2 ?_
        refine V_aload0 eX2_reads_93 rfl ?_
        refine M_gi mb (Or.inr rfl) (show _ = (0 : Int32) from rfl) eX2_reads_94 fl_X2_81_2 ?_
        refine V_ifeq eX2_reads_97 (fun c97 => ?_) (fun c97 => absurd c97 (by decide))
        refine V_iconst (v := 1) (by decide) eX2_reads_104 ?_
        refine V_iadd eX2_reads_105 ?_
        refine M_pi mb (Or.inl rfl) rfl eX2_reads_106 fl_X2_75_2 ?_
        rw [show ((nI s1) + (1 : Int32)) = nI (s1 + 1) from (zadd rfl rfl)]
        rw [ms_extF (show va_up (va_up (va_up (va_up F 5 (nI s1)) 6 (0 : Int32)) 7 (nI 0)) 5 (nI (s1 + 1)) = (va_up (va_up (va_up F 5 (nI (s1 + 1))) 6 (0 : Int32)) 7 (nI 0)) from by
            funext q
            by_cases e5 : q = 5
            · subst e5; rfl
            by_cases e6 : q = 6
            · subst e6; rfl
            by_cases e7 : q = 7
            · subst e7; rfl
            simp only [va_up, if_neg e5, if_neg e6, if_neg e7])]
        refine V_aload0 eX2_reads_109 rfl ?_
        refine M_ga mb rfl eX2_reads_110 fl_X2_8_2 ?_
        refine V_sipush (v := 10990) (by decide) eX2_reads_113 ?_
        refine V_iload2 eX2_reads_116 ?_
        refine V_iadd eX2_reads_117 ?_
        refine V_iload4 eX2_reads_118 ?_
        refine V_bipush (v := 121) (by decide) eX2_reads_120 ?_
        refine V_if_icmpne eX2_reads_122 (fun c122 => absurd c70 c122) (fun c122 => ?_)
        refine V_iconst (v := 1) (by decide) eX2_reads_125 ?_
        refine V_goto eX2_reads_126 ?_
        refine M_ss (n := (10990 + ((8 * a) + lc))) mb (zadd rfl (zadd (zmul rfl rfl) rfl)) (by omega) eX2_reads_130 ?_
        obtain ⟨S_20, hS_20⟩ : ∃ T, T = va_up S_5 (10990 + ((8 * a) + lc)) (1 : Int32) := ⟨_, rfl⟩
        rw [← hS_20]
        have hln_21 : S_20 (9630 + a) = (nI ln) := by rw [hS_20]; exact rdn (by omega) hln_6
        have hlc_22 : S_20 (10900 + a) = (nI lc) := by rw [hS_20]; exact rdn (by omega) hlc_7
        refine V_goto eX2_reads_131 ?_
        refine V_aload0 eX2_reads_174 rfl ?_
        refine M_ga mb rfl eX2_reads_175 fl_X2_8_2 ?_
        refine V_sipush (v := 10900) (by decide) eX2_reads_178 ?_
        refine V_iload1 eX2_reads_181 ?_
        refine V_iadd eX2_reads_182 ?_
        refine V_dup2 rfl rfl eX2_reads_183 ?_
        refine M_sl (n := (10900 + a)) mb (zadd rfl rfl) (by omega) hlc_22 eX2_reads_184 ?_
        refine V_iconst (v := 1) (by decide) eX2_reads_185 ?_
        refine V_iadd eX2_reads_186 ?_
        refine M_ss (n := (10900 + a)) mb (zadd rfl rfl) (by omega) eX2_reads_187 ?_
        obtain ⟨S_23, hS_23⟩ : ∃ T, T = va_up S_20 (10900 + a) ((nI lc) + (1 : Int32)) := ⟨_, rfl⟩
        rw [← hS_23]
        have hln_24 : S_23 (9630 + a) = (nI ln) := by rw [hS_23]; exact rdn (by omega) hln_21
        have hE : (S_23, (nI (s1 + 1)), (0 : Int32)) = o_reads S A F a sp ln lc := by simp only [o_reads, ← hS_2, ← hS_5, ← hS_20, ← hS_23, hs1c, hwdc, if_pos c25, if_pos c56, if_pos c70]
        exact V_return (x := ()) eX2_reads_188 rfl (by rw [← hE]; exact ⟨rfl, rfl⟩)
      · refine V_iload4 eX2_reads_73 ?_
        refine V_bipush (v := 110) (by decide) eX2_reads_75 ?_
        refine V_if_icmpeq eX2_reads_77 (fun c77 => ?_) (fun c77 => ?_)
        · have hl3 := here_lt (a := a) (sp := s1) (ln := ln) (S := S_5) (by rw [c77]; decide) (by omega) hln4
          refine V_iconst (v := 0) (by decide) eX2_reads_84 ?_
          refine M_pz mb (Or.inl rfl) rfl (by decide) eX2_reads_85 fl_X2_81_2 ?_
          rw [ms_extF (show va_up (va_up (va_up (va_up F 5 (nI s1)) 6 (o_oneWord S (va_up (va_up (va_up F 5 (nI sp)) 6 (0 : Int32)) 7 (nI 0)) a sp ln).2.2) 7 (nI 0)) 6 (0 : Int32) = (va_up (va_up (va_up F 5 (nI s1)) 6 (0 : Int32)) 7 (nI 0)) from by
              funext q
              by_cases e5 : q = 5
              · subst e5; rfl
              by_cases e6 : q = 6
              · subst e6; rfl
              by_cases e7 : q = 7
              · subst e7; rfl
              simp only [va_up, if_neg e5, if_neg e6, if_neg e7])]
          refine V_aload0 eX2_reads_88 rfl ?_
          refine V_dup rfl eX2_reads_89 ?_
          refine M_gi mb (Or.inl rfl) (show _ = (nI s1) from rfl) eX2_reads_90 fl_X2_75_2 ?_
          refine V_aload0 eX2_reads_93 rfl ?_
          refine M_gi mb (Or.inr rfl) (show _ = (0 : Int32) from rfl) eX2_reads_94 fl_X2_81_2 ?_
          refine V_ifeq eX2_reads_97 (fun c97 => ?_) (fun c97 => absurd c97 (by decide))
          refine V_iconst (v := 1) (by decide) eX2_reads_104 ?_
          refine V_iadd eX2_reads_105 ?_
          refine M_pi mb (Or.inl rfl) rfl eX2_reads_106 fl_X2_75_2 ?_
          rw [show ((nI s1) + (1 : Int32)) = nI (s1 + 1) from (zadd rfl rfl)]
          rw [ms_extF (show va_up (va_up (va_up (va_up F 5 (nI s1)) 6 (0 : Int32)) 7 (nI 0)) 5 (nI (s1 + 1)) = (va_up (va_up (va_up F 5 (nI (s1 + 1))) 6 (0 : Int32)) 7 (nI 0)) from by
              funext q
              by_cases e5 : q = 5
              · subst e5; rfl
              by_cases e6 : q = 6
              · subst e6; rfl
              by_cases e7 : q = 7
              · subst e7; rfl
              simp only [va_up, if_neg e5, if_neg e6, if_neg e7])]
          refine V_aload0 eX2_reads_109 rfl ?_
          refine M_ga mb rfl eX2_reads_110 fl_X2_8_2 ?_
          refine V_sipush (v := 10990) (by decide) eX2_reads_113 ?_
          refine V_iload2 eX2_reads_116 ?_
          refine V_iadd eX2_reads_117 ?_
          refine V_iload4 eX2_reads_118 ?_
          refine V_bipush (v := 121) (by decide) eX2_reads_120 ?_
          refine V_if_icmpne eX2_reads_122 (fun c122 => ?_) (fun c122 => absurd c122 c70)
          refine V_iconst (v := 0) (by decide) eX2_reads_129 ?_
          refine M_ss (n := (10990 + ((8 * a) + lc))) mb (zadd rfl (zadd (zmul rfl rfl) rfl)) (by omega) eX2_reads_130 ?_
          obtain ⟨S_25, hS_25⟩ : ∃ T, T = va_up S_5 (10990 + ((8 * a) + lc)) (0 : Int32) := ⟨_, rfl⟩
          rw [← hS_25]
          have hln_26 : S_25 (9630 + a) = (nI ln) := by rw [hS_25]; exact rdn (by omega) hln_6
          have hlc_27 : S_25 (10900 + a) = (nI lc) := by rw [hS_25]; exact rdn (by omega) hlc_7
          refine V_goto eX2_reads_131 ?_
          refine V_aload0 eX2_reads_174 rfl ?_
          refine M_ga mb rfl eX2_reads_175 fl_X2_8_2 ?_
          refine V_sipush (v := 10900) (by decide) eX2_reads_178 ?_
          refine V_iload1 eX2_reads_181 ?_
          refine V_iadd eX2_reads_182 ?_
          refine V_dup2 rfl rfl eX2_reads_183 ?_
          refine M_sl (n := (10900 + a)) mb (zadd rfl rfl) (by omega) hlc_27 eX2_reads_184 ?_
          refine V_iconst (v := 1) (by decide) eX2_reads_185 ?_
          refine V_iadd eX2_reads_186 ?_
          refine M_ss (n := (10900 + a)) mb (zadd rfl rfl) (by omega) eX2_reads_187 ?_
          obtain ⟨S_28, hS_28⟩ : ∃ T, T = va_up S_25 (10900 + a) ((nI lc) + (1 : Int32)) := ⟨_, rfl⟩
          rw [← hS_28]
          have hln_29 : S_28 (9630 + a) = (nI ln) := by rw [hS_28]; exact rdn (by omega) hln_26
          have hE : (S_28, (nI (s1 + 1)), (0 : Int32)) = o_reads S A F a sp ln lc := by simp only [o_reads, ← hS_2, ← hS_5, ← hS_25, ← hS_28, hs1c, hwdc, if_pos c25, if_pos c56, if_neg c70, if_pos c77]
          exact V_return (x := ()) eX2_reads_188 rfl (by rw [← hE]; exact ⟨rfl, rfl⟩)
        · refine V_iconst (v := 1) (by decide) eX2_reads_80 ?_
          refine V_goto eX2_reads_81 ?_
          refine M_pz mb (Or.inl rfl) rfl (by decide) eX2_reads_85 fl_X2_81_2 ?_
          rw [ms_extF (show va_up (va_up (va_up (va_up F 5 (nI s1)) 6 (o_oneWord S (va_up (va_up (va_up F 5 (nI sp)) 6 (0 : Int32)) 7 (nI 0)) a sp ln).2.2) 7 (nI 0)) 6 (1 : Int32) = (va_up (va_up (va_up F 5 (nI s1)) 6 (1 : Int32)) 7 (nI 0)) from by
              funext q
              by_cases e5 : q = 5
              · subst e5; rfl
              by_cases e6 : q = 6
              · subst e6; rfl
              by_cases e7 : q = 7
              · subst e7; rfl
              simp only [va_up, if_neg e5, if_neg e6, if_neg e7])]
          refine V_aload0 eX2_reads_88 rfl ?_
          refine V_dup rfl eX2_reads_89 ?_
          refine M_gi mb (Or.inl rfl) (show _ = (nI s1) from rfl) eX2_reads_90 fl_X2_75_2 ?_
          refine V_aload0 eX2_reads_93 rfl ?_
          refine M_gi mb (Or.inr rfl) (show _ = (1 : Int32) from rfl) eX2_reads_94 fl_X2_81_2 ?_
          refine V_ifeq eX2_reads_97 (fun c97 => absurd c97 (by decide)) (fun c97 => ?_)
          refine V_iconst (v := 0) (by decide) eX2_reads_100 ?_
          refine V_goto eX2_reads_101 ?_
          refine V_iadd eX2_reads_105 ?_
          refine M_pi mb (Or.inl rfl) rfl eX2_reads_106 fl_X2_75_2 ?_
          rw [show ((nI s1) + (0 : Int32)) = nI (s1 + 0) from (zadd rfl rfl)]
          rw [ms_extF (show va_up (va_up (va_up (va_up F 5 (nI s1)) 6 (1 : Int32)) 7 (nI 0)) 5 (nI (s1 + 0)) = (va_up (va_up (va_up F 5 (nI (s1 + 0))) 6 (1 : Int32)) 7 (nI 0)) from by
              funext q
              by_cases e5 : q = 5
              · subst e5; rfl
              by_cases e6 : q = 6
              · subst e6; rfl
              by_cases e7 : q = 7
              · subst e7; rfl
              simp only [va_up, if_neg e5, if_neg e6, if_neg e7])]
          refine V_aload0 eX2_reads_109 rfl ?_
          refine M_ga mb rfl eX2_reads_110 fl_X2_8_2 ?_
          refine V_sipush (v := 10990) (by decide) eX2_reads_113 ?_
          refine V_iload2 eX2_reads_116 ?_
          refine V_iadd eX2_reads_117 ?_
          refine V_iload4 eX2_reads_118 ?_
          refine V_bipush (v := 121) (by decide) eX2_reads_120 ?_
          refine V_if_icmpne eX2_reads_122 (fun c122 => ?_) (fun c122 => absurd c122 c70)
          refine V_iconst (v := 0) (by decide) eX2_reads_129 ?_
          refine M_ss (n := (10990 + ((8 * a) + lc))) mb (zadd rfl (zadd (zmul rfl rfl) rfl)) (by omega) eX2_reads_130 ?_
          obtain ⟨S_30, hS_30⟩ : ∃ T, T = va_up S_5 (10990 + ((8 * a) + lc)) (0 : Int32) := ⟨_, rfl⟩
          rw [← hS_30]
          have hln_31 : S_30 (9630 + a) = (nI ln) := by rw [hS_30]; exact rdn (by omega) hln_6
          have hlc_32 : S_30 (10900 + a) = (nI lc) := by rw [hS_30]; exact rdn (by omega) hlc_7
          refine V_goto eX2_reads_131 ?_
          refine V_aload0 eX2_reads_174 rfl ?_
          refine M_ga mb rfl eX2_reads_175 fl_X2_8_2 ?_
          refine V_sipush (v := 10900) (by decide) eX2_reads_178 ?_
          refine V_iload1 eX2_reads_181 ?_
          refine V_iadd eX2_reads_182 ?_
          refine V_dup2 rfl rfl eX2_reads_183 ?_
          refine M_sl (n := (10900 + a)) mb (zadd rfl rfl) (by omega) hlc_32 eX2_reads_184 ?_
          refine V_iconst (v := 1) (by decide) eX2_reads_185 ?_
          refine V_iadd eX2_reads_186 ?_
          refine M_ss (n := (10900 + a)) mb (zadd rfl rfl) (by omega) eX2_reads_187 ?_
          obtain ⟨S_33, hS_33⟩ : ∃ T, T = va_up S_30 (10900 + a) ((nI lc) + (1 : Int32)) := ⟨_, rfl⟩
          rw [← hS_33]
          have hln_34 : S_33 (9630 + a) = (nI ln) := by rw [hS_33]; exact rdn (by omega) hln_31
          have hE : (S_33, (nI (s1 + 0)), (1 : Int32)) = o_reads S A F a sp ln lc := by simp only [o_reads, ← hS_2, ← hS_5, ← hS_30, ← hS_33, hs1c, hwdc, if_pos c25, if_pos c56, if_neg c70, if_neg c77]
          exact V_return (x := ()) eX2_reads_188 rfl (by rw [← hE]; exact ⟨rfl, rfl⟩)
  · have hE : (S, (nI s1), (o_oneWord S (va_up (va_up (va_up F 5 (nI sp)) 6 (0 : Int32)) 7 (nI 0)) a sp ln).2.2) = o_reads S A F a sp ln lc := by simp only [o_reads, hs1c, if_neg c25]
    exact V_return (x := ()) eX2_reads_28 rfl (by rw [← hE]; exact ⟨rfl, rfl⟩)

