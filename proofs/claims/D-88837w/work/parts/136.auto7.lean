def o_midnight (S : Nat → Int32) (A : Nat → Nat → Int32) (F : Nat → Int32) (nj : Nat) (h_ : Int32) (i : Int32) : Int32 × (Nat → Int32) × (Nat → Int32) × (Nat → Int32) :=
  if (-1 : Int32) ≤ i then
    if (zin h_ (1 : Int32) (999 : Int32)) = 0 then
      ((-2 : Int32), F, (A 11), (A 12))
    else
      let F_1 := va_up F 13 (0 : Int32)
      let F_3 := (z_does S nj h_ 8 0 0 0 0 F_1 (A 11) (A 12)).1
      let R_4 := (z_does S nj h_ 8 0 0 0 0 F_1 (A 11) (A 12)).2.1
      let R_5 := (z_does S nj h_ 8 0 0 0 0 F_1 (A 11) (A 12)).2.2
      let bm := sn F_3 13
      if i = (-1 : Int32) then
        ((nI bm), F_3, R_4, R_5)
      else
        if (nI bm) ≤ i then
          ((-1 : Int32), F_3, R_4, R_5)
        else
          let k := i.toNatClampNeg
          ((R_5 k), F_3, R_4, R_5)
  else
    ((-1 : Int32), F, (A 11), (A 12))
theorem c_midnight {w : Wd} {h : Hp} {m : Nat} {ad : Nat → Nat} {A : Nat → Nat → Int32} {B : Nat → Nat → Int64} {F S : Nat → Int32} (mb : MB h m ad) (h_ : Int32) (i : Int32) {nj : Nat} (hnj : S 7 = nI nj) (hnj7 : nj ≤ 7) : Con w mX2_midnight cX2_midnight 9 0 0 [.ref m, .int h_, .int i] (ms h A B F S) (Rv (.int (o_midnight S A F nj h_ i).1) (ms h (va_up (va_up A 11 (o_midnight S A F nj h_ i).2.2.1) 12 (o_midnight S A F nj h_ i).2.2.2) B (o_midnight S A F nj h_ i).2.1 S)) := by
  refine Con.of (by decide +kernel) rfl rfl ?_
  show V w mX2_midnight cX2_midnight 9 0 0 _ 0 [some (.ref m), some (.int h_), some (.int i)] [] _
  rw [ms_extA (show A = (va_up (va_up A 11 (A 11)) 12 (A 12)) from by
    funext q
    by_cases e11 : q = 11
    · subst e11; rfl
    by_cases e12 : q = 12
    · subst e12; rfl
    simp only [va_up, if_neg e11, if_neg e12])]
  refine V_iload2 eX2_midnight_0 ?_
  refine V_iconst (v := -1) (by decide) eX2_midnight_1 ?_
  refine V_if_icmpge eX2_midnight_2 (fun c2 => ?_) (fun c2 => ?_)
  · refine V_iload1 eX2_midnight_7 ?_
    refine V_iconst (v := 1) (by decide) eX2_midnight_8 ?_
    refine V_sipush (v := 999) (by decide) eX2_midnight_9 ?_
    refine C0_static eX2_midnight_12 lmX2_in q1966 q1967 (c_in _ _ _ _) rfl rfl rfl rfl ?_
    refine V_ifne eX2_midnight_15 (fun c15 => ?_) (fun c15 => ?_)
    · refine V_aload0 eX2_midnight_21 rfl ?_
      refine V_iconst (v := 0) (by decide) eX2_midnight_22 ?_
      refine M_pi mb (Or.inl rfl) rfl eX2_midnight_23 fl_X2_231_2 ?_
      obtain ⟨F_1, hF_1⟩ : ∃ T, T = va_up F 13 (0 : Int32) := ⟨_, rfl⟩
      rw [← hF_1]
      have hF13_2 : F_1 13 = (0 : Int32) := by rw [hF_1]; exact va_up_self _ _ _
      refine V_aload0 eX2_midnight_26 rfl ?_
      refine V_iconst (v := 0) (by decide) eX2_midnight_27 ?_
      refine V_iconst (v := 0) (by decide) eX2_midnight_28 ?_
      refine V_iconst (v := 0) (by decide) eX2_midnight_29 ?_
      refine V_iconst (v := 0) (by decide) eX2_midnight_30 ?_
      refine V_iload1 eX2_midnight_31 ?_
      refine M_callU mb eX2_midnight_32 lmX2_does q2269 q2271 rfl qs85 (c_does mb h_ hnj hnj7 8 (n := 0) (by omega) (tk := 0) (tkc_0 nj hnj7) 0 0) rfl rfl rfl rfl ?_
      rw [show (va_up (va_up A 11 (A 11)) 12 (A 12)) 11 = (A 11) from rfl, show (va_up (va_up A 11 (A 11)) 12 (A 12)) 12 = (A 12) from rfl]
      obtain ⟨F_3, hF_3⟩ : ∃ T, T = (z_does S nj h_ 8 0 0 0 0 F_1 (A 11) (A 12)).1 := ⟨_, rfl⟩
      obtain ⟨R_4, hR_4⟩ : ∃ T, T = (z_does S nj h_ 8 0 0 0 0 F_1 (A 11) (A 12)).2.1 := ⟨_, rfl⟩
      obtain ⟨R_5, hR_5⟩ : ∃ T, T = (z_does S nj h_ 8 0 0 0 0 F_1 (A 11) (A 12)).2.2 := ⟨_, rfl⟩
      rw [← hF_3]
      rw [ms_extA (show va_up (va_up (va_up (va_up A 11 (A 11)) 12 (A 12)) 11 (z_does S nj h_ 8 0 0 0 0 F_1 (A 11) (A 12)).2.1) 12 (z_does S nj h_ 8 0 0 0 0 F_1 (A 11) (A 12)).2.2 = (va_up (va_up A 11 R_4) 12 R_5) from by
          rw [hR_4, hR_5]; funext q
          by_cases e11 : q = 11
          · subst e11; rfl
          by_cases e12 : q = 12
          · subst e12; rfl
          simp only [va_up, if_neg e11, if_neg e12])]
      obtain ⟨bm, hbm0, hbm7⟩ : ∃ bm, F_3 13 = nI bm ∧ bm ≤ 7 := by rw [hF_3]; exact z_does_bm hnj7 hF13_2
      have hbm : sn F_3 13 = bm := sn_of hbm0 (by omega)
      refine V_iload2 eX2_midnight_35 ?_
      refine V_iconst (v := -1) (by decide) eX2_midnight_36 ?_
      refine V_if_icmpne eX2_midnight_37 (fun c37 => ?_) (fun c37 => ?_)
      · refine V_iload2 eX2_midnight_47 ?_
        refine V_aload0 eX2_midnight_48 rfl ?_
        refine M_gi mb (Or.inl rfl) hbm0 eX2_midnight_49 fl_X2_231_2 ?_
        refine V_if_icmpge eX2_midnight_52 (fun c52 => ?_) (fun c52 => ?_)
        · refine V_iconst (v := -1) (by decide) eX2_midnight_64 ?_
          have hE : ((-1 : Int32), F_3, R_4, R_5) = o_midnight S A F nj h_ i := by simp only [o_midnight, ← hF_1, ← hF_3, ← hR_4, ← hR_5, hbm, if_pos c2, if_neg c15, if_neg c37, if_pos c52]
          exact V_ireturn eX2_midnight_65 rfl (by rw [← hE]; exact ⟨rfl, rfl⟩)
        · obtain ⟨k, hk9, rfl⟩ := nI_of (zm1 c2 c37)
          have hkc : (nI k).toNatClampNeg = k := nI_clamp hk9
          have hkb := nnle (a := bm) c52 (by omega) hk9
          refine V_aload0 eX2_midnight_55 rfl ?_
          refine M_ga mb rfl eX2_midnight_56 fl_X2_29_2 ?_
          refine V_iload2 eX2_midnight_59 ?_
          refine M_al (j := 12) (n := k) mb rfl (by decide) rfl (by show _ < _; first | decide | (simp only [mlen]; omega)) (show _ = (R_5 k) from rfl) eX2_midnight_60 ?_
          refine V_goto eX2_midnight_61 ?_
          have hE : ((R_5 k), F_3, R_4, R_5) = o_midnight S A F nj h_ (nI k) := by simp only [o_midnight, ← hF_1, ← hF_3, ← hR_4, ← hR_5, hbm, hkc, if_pos c2, if_neg c15, if_neg c37, if_neg c52]
          exact V_ireturn eX2_midnight_65 rfl (by rw [← hE]; exact ⟨rfl, rfl⟩)
      · refine V_aload0 eX2_midnight_40 rfl ?_
        refine M_gi mb (Or.inl rfl) hbm0 eX2_midnight_41 fl_X2_231_2 ?_
        refine V_goto eX2_midnight_44 ?_
        have hE : ((nI bm), F_3, R_4, R_5) = o_midnight S A F nj h_ i := by simp only [o_midnight, ← hF_1, ← hF_3, ← hR_4, ← hR_5, hbm, if_pos c2, if_neg c15, if_pos c37]
        exact V_ireturn eX2_midnight_65 rfl (by rw [← hE]; exact ⟨rfl, rfl⟩)
    · refine V_bipush (v := -2) (by decide) eX2_midnight_18 ?_
      have hE : ((-2 : Int32), F, (A 11), (A 12)) = o_midnight S A F nj h_ i := by simp only [o_midnight, if_pos c2, if_pos c15]
      exact V_ireturn eX2_midnight_20 rfl (by rw [← hE]; exact ⟨rfl, rfl⟩)
  · refine V_iconst (v := -1) (by decide) eX2_midnight_5 ?_
    have hE : ((-1 : Int32), F, (A 11), (A 12)) = o_midnight S A F nj h_ i := by simp only [o_midnight, if_neg c2]
    exact V_ireturn eX2_midnight_6 rfl (by rw [← hE]; exact ⟨rfl, rfl⟩)
