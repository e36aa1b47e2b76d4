/-- a part of the reader: from a place it answers a value, a place and whether it is wrong -/
def PW (ln : Nat) (f : Nat → Int32 × Int32 × Int32) : Prop := ∀ sp, sp ≤ ln → ∃ s, (f sp).2.1 = nI s ∧ sp ≤ s ∧ s ≤ ln ∧ ((f sp).2.2 = 0 ∨ (f sp).2.2 = 1) ∧ ((f sp).1 = 0 ∨ (f sp).1 = 1)
def PC (w : Wd) (h : Hp) (m : Nat) (S : Nat → Int32) (A : Nat → Nat → Int32) (a ln op : Nat) (mi : Mi) (cc : ByteArray) (L : Nat) (f : Nat → Int32 × Int32 × Int32) : Prop :=
  ∀ {sp : Nat}, sp ≤ ln → ∀ {B : Nat → Nat → Int64} {F : Nat → Int32}, F 4 = nI a → F 5 = nI sp → F 6 = 0 → F 7 = nI op → Con w mi cc L 0 0 [.ref m] (ms h A B F S) (Rv (.int (f sp).1) (ms h A B (va_up (va_up (va_up F 5 (f sp).2.1) 6 (f sp).2.2) 7 (nI op)) S))
theorem num_ok {S F : Nat → Int32} {a sp ln : Nat} (hs : sp ≤ ln) (hl : ln ≤ 140) : ∃ s, (o_number S F a sp ln).2.1 = nI s ∧ sp ≤ s ∧ s ≤ ln ∧ ((o_number S F a sp ln).2.2 = 0 ∨ (o_number S F a sp ln).2.2 = 1) ∧ True := by
  have hh : ∀ k, k ≤ ln → ¬ zin (o_here S a k ln) 48 57 = 0 → k < ln := fun k hk c => here_lt (fun q => c (by rw [q]; decide)) hk hl
  simp only [o_number]
  split
  · split
    · exact ⟨sp, rfl, by omega, by omega, Or.inr rfl, trivial⟩
    · next c0 =>
      have h0 := hh sp hs c0
      split
      · exact ⟨sp + 1, rfl, by omega, by omega, Or.inl rfl, trivial⟩
      · next c1 =>
        have h1 := hh (sp + 1) (by omega) c1
        split
        · exact ⟨sp + 1, rfl, by omega, by omega, Or.inl rfl, trivial⟩
        · split
          · exact ⟨sp + 1 + 1, rfl, by omega, by omega, Or.inl rfl, trivial⟩
          · next c2 =>
            have h2 := hh (sp + 1 + 1) (by omega) c2
            split
            · exact ⟨sp + 1 + 1, rfl, by omega, by omega, Or.inl rfl, trivial⟩
            · exact ⟨sp + 1 + 1 + 1, rfl, by omega, by omega, Or.inl rfl, trivial⟩
  · exact ⟨sp, rfl, by omega, by omega, Or.inr rfl, trivial⟩
theorem must_ok {S F : Nat → Int32} {a sp ln : Nat} {c : Int32} (hs : sp ≤ ln) (hl : ln ≤ 140) (hc : ¬ c = -1) : ∃ s, (o_must S F a sp ln c).1 = nI s ∧ sp ≤ s ∧ s ≤ ln ∧ ((o_must S F a sp ln c).2 = 0 ∨ (o_must S F a sp ln c).2 = 1) ∧ True := by
  simp only [o_must]
  repeat' split
  all_goals first | exact ⟨sp, rfl, by omega, by omega, Or.inr rfl, trivial⟩ | skip
  all_goals (next q => exact ⟨sp + 1, rfl, by omega, by have := here_lt (S := S) (a := a) (sp := sp) (ln := ln) (by rw [q]; exact hc) hs hl; omega, Or.inl rfl, trivial⟩)
def K_everyS_5 (S : Nat → Int32) (a : Nat) (ln : Nat) (rf : Nat → Int32 × Int32 × Int32) : Int32 × Int32 × Int32 → Option (Int32 × Int32 × Int32) := fun q5 =>
    let u := q5.2.1.toNatClampNeg
    if q5.2.2 = 0 then
      if (o_here S a u ln) = (38 : Int32) then
        let s2 := ((rf (u + 1)).2.1).toNatClampNeg
        if q5.1 = 0 then
          some ((0 : Int32), (nI s2), (rf (u + 1)).2.2)
        else
          if (rf (u + 1)).1 = 0 then
            some ((0 : Int32), (nI s2), (rf (u + 1)).2.2)
          else
            some ((1 : Int32), (nI s2), (rf (u + 1)).2.2)
      else
        none
    else
      none
def o_everyS (S : Nat → Int32) (a : Nat) (sp : Nat) (ln : Nat) (rf : Nat → Int32 × Int32 × Int32) : Int32 × Int32 × Int32 :=
  let s1 := ((rf sp).2.1).toNatClampNeg
  let q5 := zwh (K_everyS_5 S a ln rf) zBIG ((rf sp).1, (nI s1), (rf sp).2.2)
  let u := q5.2.1.toNatClampNeg
  (q5.1, (nI u), q5.2.2)
theorem c_everyS {w : Wd} {h : Hp} {m : Nat} {ad : Nat → Nat} {A : Nat → Nat → Int32} {B : Nat → Nat → Int64} {F S : Nat → Int32} (mb : MB h m ad)  {a sp ln : Nat} (hF4 : F 4 = nI a) (ha : a < 9) (hF5 : F 5 = nI sp) (hsp : sp ≤ ln) (hln : S (9630 + a) = nI ln) (hln4 : ln ≤ 140) (hF6 : F 6 = 0) {op : Nat} (hF7 : F 7 = nI op) {d : Nat} (hd : 4 ≤ d) (rf : Nat → Int32 × Int32 × Int32) (IH : PC w h m S A a ln op mX2_factor cX2_factor d rf) (hrf : PW ln rf) : Con w mX2_every cX2_every (d + 1) 0 0 [.ref m] (ms h A B F S) (Rv (.int (o_everyS S a sp ln rf).1) (ms h A B (va_up (va_up (va_up F 5 (o_everyS S a sp ln rf).2.1) 6 (o_everyS S a sp ln rf).2.2) 7 (nI op)) S)) := by
  refine Con.of (by decide +kernel) rfl rfl ?_
  show V w mX2_every cX2_every (d + 1) 0 0 _ 0 [some (.ref m), none, none] [] _
  rw [ms_extF (show F = (va_up (va_up (va_up F 5 (F 5)) 6 (F 6)) 7 (F 7)) from by
    funext q
    by_cases e5 : q = 5
    · subst e5; rfl
    by_cases e6 : q = 6
    · subst e6; rfl
    by_cases e7 : q = 7
    · subst e7; rfl
    simp only [va_up, if_neg e5, if_neg e6, if_neg e7])]
  rw [hF5]
  rw [hF6]
  rw [hF7]
  refine V_aload0 eX2_every_0 rfl ?_
  refine M_call mb eX2_every_1 lmX2_factor q2075 q2077 rfl qs60 (IH (sp := sp) (by omega) (F := (va_up (va_up (va_up F 5 (nI sp)) 6 (0 : Int32)) 7 (nI op))) hF4 (show _ = nI sp from rfl) (show _ = 0 from rfl) (show _ = nI op from rfl)) (zblt (by omega)) rfl rfl rfl ?_
  rw [ms_extF (show (va_up (va_up (va_up (va_up (va_up (va_up F 5 (nI sp)) 6 (0 : Int32)) 7 (nI op)) 5 (rf sp).2.1) 6 (rf sp).2.2) 7 (nI op)) = (va_up (va_up (va_up F 5 (rf sp).2.1) 6 (rf sp).2.2) 7 (nI op)) from by
      funext q
      by_cases e5 : q = 5
      · subst e5; rfl
      by_cases e6 : q = 6
      · subst e6; rfl
      by_cases e7 : q = 7
      · subst e7; rfl
      simp only [va_up, if_neg e5, if_neg e6, if_neg e7])]
  obtain ⟨s1, hs1, hs1a, hs1b, hs1w, hs1v⟩ := hrf sp (by omega)
  have hs1c : ((rf sp).2.1).toNatClampNeg = s1 := by rw [hs1]; exact nI_clamp (by omega)
  rw [hs1]
  refine V_istore1 rfl eX2_every_4 rfl ?_
  refine V.le (zle_c (zle_c (zle_n zle_0))) (zwl (P := fun n5 => ∀ q5 : Int32 × Int32 × Int32, zwh (K_everyS_5 S a ln rf) zBIG ((rf sp).1, (nI s1), (rf sp).2.2) = zwh (K_everyS_5 S a ln rf) n5 q5 → (∃ u, q5.2.1 = nI u ∧ sp ≤ u ∧ u ≤ ln ∧ (q5.2.2 = 0 ∨ q5.2.2 = 1) ∧ (q5.1 = 0 ∨ q5.1 = 1)) → (141 - q5.2.1.toNatClampNeg ≤ n5) → V w mX2_every cX2_every (d + 1) 0 0 (ms h A B (va_up (va_up (va_up F 5 q5.2.1) 6 q5.2.2) 7 (nI op)) S) 5 [some (.ref m), some (.int q5.1), none] [] _) (fun n5 ih5 q5 hR5 hI hM => ?_) zBIG ((rf sp).1, (nI s1), (rf sp).2.2) rfl ⟨s1, rfl, by omega, by omega, hs1w, hs1v⟩ (by show 141 - _ ≤ 100000000; omega))
  obtain ⟨u, hu1, hu2, hu3, hu4, hu5⟩ := id hI
  have huc : q5.2.1.toNatClampNeg = u := by rw [hu1]; exact nI_clamp (by omega)
  rw [hu1]
  refine V_aload0 eX2_every_5 rfl ?_
  refine M_gi mb (Or.inr rfl) (show _ = q5.2.2 from rfl) eX2_every_6 fl_X2_81_2 ?_
  refine V_ifne eX2_every_9 (fun c9 => ?_) (fun c9 => ?_)
  · have hK5 : K_everyS_5 S a ln rf q5 = none := by simp only [K_everyS_5, hs1c, huc, if_neg c9]
    have hq5 : q5 = zwh (K_everyS_5 S a ln rf) zBIG ((rf sp).1, (nI s1), (rf sp).2.2) := (hR5.trans (zwh_n hK5)).symm
    refine V_iload1 eX2_every_53 ?_
    have hE : (q5.1, (nI u), q5.2.2) = o_everyS S a sp ln rf := by simp only [o_everyS, ← hq5, hs1c, huc]
    exact V_zreturn eX2_every_54 rfl hu5 (by rw [← hE]; exact ⟨rfl, rfl⟩)
  · refine V_aload0 eX2_every_12 rfl ?_
    refine M_call mb eX2_every_13 lmX2_here q2063 q2065 rfl qs57 (c_here mb (a := a) (sp := u) (ln := ln) hF4 ha (show _ = nI u from rfl) (by omega) hln hln4) (zblt (by omega)) rfl rfl rfl ?_
    refine V_bipush (v := 38) (by decide) eX2_every_16 ?_
    refine V_if_icmpne eX2_every_18 (fun c18 => ?_) (fun c18 => ?_)
    · have hK5 : K_everyS_5 S a ln rf q5 = none := by simp only [K_everyS_5, hs1c, huc, if_pos c9, if_neg c18]
      have hq5 : q5 = zwh (K_everyS_5 S a ln rf) zBIG ((rf sp).1, (nI s1), (rf sp).2.2) := (hR5.trans (zwh_n hK5)).symm
      refine V_iload1 eX2_every_53 ?_
      have hE : (q5.1, (nI u), q5.2.2) = o_everyS S a sp ln rf := by simp only [o_everyS, ← hq5, hs1c, huc]
      exact V_zreturn eX2_every_54 rfl hu5 (by rw [← hE]; exact ⟨rfl, rfl⟩)
    · have hlt := here_lt (a := a) (sp := u) (ln := ln) (S := S) (by rw [c18]; decide) (by omega) hln4
      refine V_aload0 eX2_every_21 rfl ?_
      refine V_dup rfl eX2_every_22 ?_
      refine M_gi mb (Or.inl rfl) (show _ = (nI u) from rfl) eX2_every_23 fl_X2_75_2 ?_
      refine V_iconst (v := 1) (by decide) eX2_every_26 ?_
      refine V_iadd eX2_every_27 ?_
      refine M_pi mb (Or.inl rfl) rfl eX2_every_28 fl_X2_75_2 ?_
      rw [show ((nI u) + (1 : Int32)) = nI (u + 1) from (zadd rfl rfl)]
      rw [ms_extF (show va_up (va_up (va_up (va_up F 5 (nI u)) 6 q5.2.2) 7 (nI op)) 5 (nI (u + 1)) = (va_up (va_up (va_up F 5 (nI (u + 1))) 6 q5.2.2) 7 (nI op)) from by
          funext q
          by_cases e5 : q = 5
          · subst e5; rfl
          by_cases e6 : q = 6
          · subst e6; rfl
          by_cases e7 : q = 7
          · subst e7; rfl
          simp only [va_up, if_neg e5, if_neg e6, if_neg e7])]
      refine V_aload0 eX2_every_31 rfl ?_
      refine M_call mb eX2_every_32 lmX2_factor q2075 q2077 rfl qs60 (IH (sp := (u + 1)) (by omega) (F := (va_up (va_up (va_up F 5 (nI (u + 1))) 6 q5.2.2) 7 (nI op))) hF4 (show _ = nI (u + 1) from rfl) (show _ = 0 from c9) (show _ = nI op from rfl)) (zblt (by omega)) rfl rfl rfl ?_
      rw [ms_extF (show (va_up (va_up (va_up (va_up (va_up (va_up F 5 (nI (u + 1))) 6 q5.2.2) 7 (nI op)) 5 (rf (u + 1)).2.1) 6 (rf (u + 1)).2.2) 7 (nI op)) = (va_up (va_up (va_up F 5 (rf (u + 1)).2.1) 6 (rf (u + 1)).2.2) 7 (nI op)) from by
          funext q
          by_cases e5 : q = 5
          · subst e5; rfl
          by_cases e6 : q = 6
          · subst e6; rfl
          by_cases e7 : q = 7
          · subst e7; rfl
          simp only [va_up, if_neg e5, if_neg e6, if_neg e7])]
      obtain ⟨s2, hs2, hs2a, hs2b, hs2w, hs2v⟩ := hrf (u + 1) (by omega)
      have hs2c : ((rf (u + 1)).2.1).toNatClampNeg = s2 := by rw [hs2]; exact nI_clamp (by omega)
      rw [hs2]
      refine V_istore2 rfl eX2_every_35 rfl ?_
      refine V_iload1 eX2_every_36 ?_
      refine V_ifeq eX2_every_37 (fun c37 => ?_) (fun c37 => ?_)
      · refine V_iconst (v := 0) (by decide) eX2_every_48 ?_
        refine V_istore1 rfl eX2_every_49 rfl ?_
        refine V_goto eX2_every_50 ?_
        have hK5 : K_everyS_5 S a ln rf q5 = some ((0 : Int32), (nI s2), (rf (u + 1)).2.2) := by simp only [K_everyS_5, hs1c, huc, hs2c, if_pos c9, if_pos c18, if_pos c37]
        obtain ⟨n5, rfl⟩ : ∃ k, n5 = k + 1 := ⟨n5 - 1, by rw [huc] at hM; omega⟩
        exact V.le (zle_c (zle_c (zle_n zle_0))) (ih5 n5 rfl ((0 : Int32), (nI s2), (rf (u + 1)).2.2) (hR5.trans (zwh_s hK5))  ⟨s2, rfl, by omega, by omega, hs2w, by first | exact Or.inl rfl | exact Or.inr rfl⟩ (by rw [nI_clamp (by omega)]; rw [huc] at hM; omega))
      · refine V_iload2 eX2_every_40 ?_
        refine V_ifeq eX2_every_41 (fun c41 => ?_) (fun c41 => ?_)
        · refine V_iconst (v := 0) (by decide) eX2_every_48 ?_
          refine V_istore1 rfl eX2_every_49 rfl ?_
          refine V_goto eX2_every_50 ?_
          have hK5 : K_everyS_5 S a ln rf q5 = some ((0 : Int32), (nI s2), (rf (u + 1)).2.2) := by simp only [K_everyS_5, hs1c, huc, hs2c, if_pos c9, if_pos c18, if_neg c37, if_pos c41]
          obtain ⟨n5, rfl⟩ : ∃ k, n5 = k + 1 := ⟨n5 - 1, by rw [huc] at hM; omega⟩
          exact V.le (zle_c (zle_c (zle_n zle_0))) (ih5 n5 rfl ((0 : Int32), (nI s2), (rf (u + 1)).2.2) (hR5.trans (zwh_s hK5))  ⟨s2, rfl, by omega, by omega, hs2w, by first | exact Or.inl rfl | exact Or.inr rfl⟩ (by rw [nI_clamp (by omega)]; rw [huc] at hM; omega))
        · refine V_iconst (v := 1) (by decide) eX2_every_44 ?_
          refine V_goto eX2_every_45 ?_
          refine V_istore1 rfl eX2_every_49 rfl ?_
          refine V_goto eX2_every_50 ?_
          have hK5 : K_everyS_5 S a ln rf q5 = some ((1 : Int32), (nI s2), (rf (u + 1)).2.2) := by simp only [K_everyS_5, hs1c, huc, hs2c, if_pos c9, if_pos c18, if_neg c37, if_neg c41]
          obtain ⟨n5, rfl⟩ : ∃ k, n5 = k + 1 := ⟨n5 - 1, by rw [huc] at hM; omega⟩
          exact V.le (zle_c (zle_c (zle_n zle_0))) (ih5 n5 rfl ((1 : Int32), (nI s2), (rf (u + 1)).2.2) (hR5.trans (zwh_s hK5))  ⟨s2, rfl, by omega, by omega, hs2w, by first | exact Or.inl rfl | exact Or.inr rfl⟩ (by rw [nI_clamp (by omega)]; rw [huc] at hM; omega))

def K_someS_5 (S : Nat → Int32) (a : Nat) (ln : Nat) (rf : Nat → Int32 × Int32 × Int32) : Int32 × Int32 × Int32 → Option (Int32 × Int32 × Int32) := fun q5 =>
    let u := q5.2.1.toNatClampNeg
    if q5.2.2 = 0 then
      if (o_here S a u ln) = (124 : Int32) then
        let s2 := ((rf (u + 1)).2.1).toNatClampNeg
        if q5.1 = 0 then
          if (rf (u + 1)).1 = 0 then
            some ((0 : Int32), (nI s2), (rf (u + 1)).2.2)
          else
            some ((1 : Int32), (nI s2), (rf (u + 1)).2.2)
        else
          some ((1 : Int32), (nI s2), (rf (u + 1)).2.2)
      else
        none
    else
      none
def o_someS (S : Nat → Int32) (a : Nat) (sp : Nat) (ln : Nat) (rf : Nat → Int32 × Int32 × Int32) : Int32 × Int32 × Int32 :=
  let s1 := ((rf sp).2.1).toNatClampNeg
  let q5 := zwh (K_someS_5 S a ln rf) zBIG ((rf sp).1, (nI s1), (rf sp).2.2)
  let u := q5.2.1.toNatClampNeg
  (q5.1, (nI u), q5.2.2)
theorem c_someS {w : Wd} {h : Hp} {m : Nat} {ad : Nat → Nat} {A : Nat → Nat → Int32} {B : Nat → Nat → Int64} {F S : Nat → Int32} (mb : MB h m ad)  {a sp ln : Nat} (hF4 : F 4 = nI a) (ha : a < 9) (hF5 : F 5 = nI sp) (hsp : sp ≤ ln) (hln : S (9630 + a) = nI ln) (hln4 : ln ≤ 140) (hF6 : F 6 = 0) {op : Nat} (hF7 : F 7 = nI op) {d : Nat} (hd : 4 ≤ d) (rf : Nat → Int32 × Int32 × Int32) (IH : PC w h m S A a ln op mX2_every cX2_every d rf) (hrf : PW ln rf) : Con w mX2_some cX2_some (d + 1) 0 0 [.ref m] (ms h A B F S) (Rv (.int (o_someS S a sp ln rf).1) (ms h A B (va_up (va_up (va_up F 5 (o_someS S a sp ln rf).2.1) 6 (o_someS S a sp ln rf).2.2) 7 (nI op)) S)) := by
  refine Con.of (by decide +kernel) rfl rfl ?_
  show V w mX2_some cX2_some (d + 1) 0 0 _ 0 [some (.ref m), none, none] [] _
  rw [ms_extF (show F = (va_up (va_up (va_up F 5 (F 5)) 6 (F 6)) 7 (F 7)) from by
    funext q
    by_cases e5 : q = 5
    · subst e5; rfl
    by_cases e6 : q = 6
    · subst e6; rfl
    by_cases e7 : q = 7
    · subst e7; rfl
    simp only [va_up, if_neg e5, if_neg e6, if_neg e7])]
  rw [hF5]
  rw [hF6]
  rw [hF7]
  refine V_aload0 eX2_some_0 rfl ?_
  refine M_call mb eX2_some_1 lmX2_every q2071 q2073 rfl qs59 (IH (sp := sp) (by omega) (F := (va_up (va_up (va_up F 5 (nI sp)) 6 (0 : Int32)) 7 (nI op))) hF4 (show _ = nI sp from rfl) (show _ = 0 from rfl) (show _ = nI op from rfl)) (zblt (by omega)) rfl rfl rfl ?_
  rw [ms_extF (show (va_up (va_up (va_up (va_up (va_up (va_up F 5 (nI sp)) 6 (0 : Int32)) 7 (nI op)) 5 (rf sp).2.1) 6 (rf sp).2.2) 7 (nI op)) = (va_up (va_up (va_up F 5 (rf sp).2.1) 6 (rf sp).2.2) 7 (nI op)) from by
      funext q
      by_cases e5 : q = 5
      · subst e5; rfl
      by_cases e6 : q = 6
      · subst e6; rfl
      by_cases e7 : q = 7
      · subst e7; rfl
      simp only [va_up, if_neg e5, if_neg e6, if_neg e7])]
  obtain ⟨s1, hs1, hs1a, hs1b, hs1w, hs1v⟩ := hrf sp (by omega)
  have hs1c : ((rf sp).2.1).toNatClampNeg = s1 := by rw [hs1]; exact nI_clamp (by omega)
  rw [hs1]
  refine V_istore1 rfl eX2_some_4 rfl ?_
  refine V.le (zle_c (zle_c (zle_n zle_0))) (zwl (P := fun n5 => ∀ q5 : Int32 × Int32 × Int32, zwh (K_someS_5 S a ln rf) zBIG ((rf sp).1, (nI s1), (rf sp).2.2) = zwh (K_someS_5 S a ln rf) n5 q5 → (∃ u, q5.2.1 = nI u ∧ sp ≤ u ∧ u ≤ ln ∧ (q5.2.2 = 0 ∨ q5.2.2 = 1) ∧ (q5.1 = 0 ∨ q5.1 = 1)) → (141 - q5.2.1.toNatClampNeg ≤ n5) → V w mX2_some cX2_some (d + 1) 0 0 (ms h A B (va_up (va_up (va_up F 5 q5.2.1) 6 q5.2.2) 7 (nI op)) S) 5 [some (.ref m), some (.int q5.1), none] [] _) (fun n5 ih5 q5 hR5 hI hM => ?_) zBIG ((rf sp).1, (nI s1), (rf sp).2.2) rfl ⟨s1, rfl, by omega, by omega, hs1w, hs1v⟩ (by show 141 - _ ≤ 100000000; omega))
  obtain ⟨u, hu1, hu2, hu3, hu4, hu5⟩ := id hI
  have huc : q5.2.1.toNatClampNeg = u := by rw [hu1]; exact nI_clamp (by omega)
  rw [hu1]
  refine V_aload0 eX2_some_5 rfl ?_
  refine M_gi mb (Or.inr rfl) (show _ = q5.2.2 from rfl) eX2_some_6 fl_X2_81_2 ?_
  refine V_ifne eX2_some_9 (fun c9 => ?_) (fun c9 => ?_)
  · have hK5 : K_someS_5 S a ln rf q5 = none := by simp only [K_someS_5, hs1c, huc, if_neg c9]
    have hq5 : q5 = zwh (K_someS_5 S a ln rf) zBIG ((rf sp).1, (nI s1), (rf sp).2.2) := (hR5.trans (zwh_n hK5)).symm
    refine V_iload1 eX2_some_53 ?_
    have hE : (q5.1, (nI u), q5.2.2) = o_someS S a sp ln rf := by simp only [o_someS, ← hq5, hs1c, huc]
    exact V_zreturn eX2_some_54 rfl hu5 (by rw [← hE]; exact ⟨rfl, rfl⟩)
  · refine V_aload0 eX2_some_12 rfl ?_
    refine M_call mb eX2_some_13 lmX2_here q2063 q2065 rfl qs57 (c_here mb (a := a) (sp := u) (ln := ln) hF4 ha (show _ = nI u from rfl) (by omega) hln hln4) (zblt (by omega)) rfl rfl rfl ?_
    refine V_bipush (v := 124) (by decide) eX2_some_16 ?_
    refine V_if_icmpne eX2_some_18 (fun c18 => ?_) (fun c18 => ?_)
    · have hK5 : K_someS_5 S a ln rf q5 = none := by simp only [K_someS_5, hs1c, huc, if_pos c9, if_neg c18]
      have hq5 : q5 = zwh (K_someS_5 S a ln rf) zBIG ((rf sp).1, (nI s1), (rf sp).2.2) := (hR5.trans (zwh_n hK5)).symm
      refine V_iload1 eX2_some_53 ?_
      have hE : (q5.1, (nI u), q5.2.2) = o_someS S a sp ln rf := by simp only [o_someS, ← hq5, hs1c, huc]
      exact V_zreturn eX2_some_54 rfl hu5 (by rw [← hE]; exact ⟨rfl, rfl⟩)
    · have hlt := here_lt (a := a) (sp := u) (ln := ln) (S := S) (by rw [c18]; decide) (by omega) hln4
      refine V_aload0 eX2_some_21 rfl ?_
      refine V_dup rfl eX2_some_22 ?_
      refine M_gi mb (Or.inl rfl) (show _ = (nI u) from rfl) eX2_some_23 fl_X2_75_2 ?_
      refine V_iconst (v := 1) (by decide) eX2_some_26 ?_
      refine V_iadd eX2_some_27 ?_
      refine M_pi mb (Or.inl rfl) rfl eX2_some_28 fl_X2_75_2 ?_
      rw [show ((nI u) + (1 : Int32)) = nI (u + 1) from (zadd rfl rfl)]
      rw [ms_extF (show va_up (va_up (va_up (va_up F 5 (nI u)) 6 q5.2.2) 7 (nI op)) 5 (nI (u + 1)) = (va_up (va_up (va_up F 5 (nI (u + 1))) 6 q5.2.2) 7 (nI op)) from by
          funext q
          by_cases e5 : q = 5
          · subst e5; rfl
          by_cases e6 : q = 6
          · subst e6; rfl
          by_cases e7 : q = 7
          · subst e7; rfl
          simp only [va_up, if_neg e5, if_neg e6, if_neg e7])]
      refine V_aload0 eX2_some_31 rfl ?_
      refine M_call mb eX2_some_32 lmX2_every q2071 q2073 rfl qs59 (IH (sp := (u + 1)) (by omega) (F := (va_up (va_up (va_up F 5 (nI (u + 1))) 6 q5.2.2) 7 (nI op))) hF4 (show _ = nI (u + 1) from rfl) (show _ = 0 from c9) (show _ = nI op from rfl)) (zblt (by omega)) rfl rfl rfl ?_
      rw [ms_extF (show (va_up (va_up (va_up (va_up (va_up (va_up F 5 (nI (u + 1))) 6 q5.2.2) 7 (nI op)) 5 (rf (u + 1)).2.1) 6 (rf (u + 1)).2.2) 7 (nI op)) = (va_up (va_up (va_up F 5 (rf (u + 1)).2.1) 6 (rf (u + 1)).2.2) 7 (nI op)) from by
          funext q
          by_cases e5 : q = 5
          · subst e5; rfl
          by_cases e6 : q = 6
          · subst e6; rfl
          by_cases e7 : q = 7
          · subst e7; rfl
          simp only [va_up, if_neg e5, if_neg e6, if_neg e7])]
      obtain ⟨s2, hs2, hs2a, hs2b, hs2w, hs2v⟩ := hrf (u + 1) (by omega)
      have hs2c : ((rf (u + 1)).2.1).toNatClampNeg = s2 := by rw [hs2]; exact nI_clamp (by omega)
      rw [hs2]
      refine V_istore2 rfl eX2_some_35 rfl ?_
      refine V_iload1 eX2_some_36 ?_
      refine V_ifne eX2_some_37 (fun c37 => ?_) (fun c37 => ?_)
      · refine V_iconst (v := 1) (by decide) eX2_some_44 ?_
        refine V_goto eX2_some_45 ?_
        refine V_istore1 rfl eX2_some_49 rfl ?_
        refine V_goto eX2_some_50 ?_
        have hK5 : K_someS_5 S a ln rf q5 = some ((1 : Int32), (nI s2), (rf (u + 1)).2.2) := by simp only [K_someS_5, hs1c, huc, hs2c, if_pos c9, if_pos c18, if_neg c37]
        obtain ⟨n5, rfl⟩ : ∃ k, n5 = k + 1 := ⟨n5 - 1, by rw [huc] at hM; omega⟩
        exact V.le (zle_c (zle_c (zle_n zle_0))) (ih5 n5 rfl ((1 : Int32), (nI s2), (rf (u + 1)).2.2) (hR5.trans (zwh_s hK5))  ⟨s2, rfl, by omega, by omega, hs2w, by first | exact Or.inl rfl | exact Or.inr rfl⟩ (by rw [nI_clamp (by omega)]; rw [huc] at hM; omega))
      · refine V_iload2 eX2_some_40 ?_
        refine V_ifeq eX2_some_41 (fun c41 => ?_) (fun c41 => ?_)
        · refine V_iconst (v := 0) (by decide) eX2_some_48 ?_
          refine V_istore1 rfl eX2_some_49 rfl ?_
          refine V_goto eX2_some_50 ?_
          have hK5 : K_someS_5 S a ln rf q5 = some ((0 : Int32), (nI s2), (rf (u + 1)).2.2) := by simp only [K_someS_5, hs1c, huc, hs2c, if_pos c9, if_pos c18, if_pos c37, if_pos c41]
          obtain ⟨n5, rfl⟩ : ∃ k, n5 = k + 1 := ⟨n5 - 1, by rw [huc] at hM; omega⟩
          exact V.le (zle_c (zle_c (zle_n zle_0))) (ih5 n5 rfl ((0 : Int32), (nI s2), (rf (u + 1)).2.2) (hR5.trans (zwh_s hK5))  ⟨s2, rfl, by omega, by omega, hs2w, by first | exact Or.inl rfl | exact Or.inr rfl⟩ (by rw [nI_clamp (by omega)]; rw [huc] at hM; omega))
        · refine V_iconst (v := 1) (by decide) eX2_some_44 ?_
          refine V_goto eX2_some_45 ?_
          refine V_istore1 rfl eX2_some_49 rfl ?_
          refine V_goto eX2_some_50 ?_
          have hK5 : K_someS_5 S a ln rf q5 = some ((1 : Int32), (nI s2), (rf (u + 1)).2.2) := by simp only [K_someS_5, hs1c, huc, hs2c, if_pos c9, if_pos c18, if_pos c37, if_neg c41]
          obtain ⟨n5, rfl⟩ : ∃ k, n5 = k + 1 := ⟨n5 - 1, by rw [huc] at hM; omega⟩
          exact V.le (zle_c (zle_c (zle_n zle_0))) (ih5 n5 rfl ((1 : Int32), (nI s2), (rf (u + 1)).2.2) (hR5.trans (zwh_s hK5))  ⟨s2, rfl, by omega, by omega, hs2w, by first | exact Or.inl rfl | exact Or.inr rfl⟩ (by rw [nI_clamp (by omega)]; rw [huc] at hM; omega))

